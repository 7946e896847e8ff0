/-! GridMarket -/
set_option maxRecDepth 100000
def RX1 : String := "GridMarket"
def TX1 : u_T := fun k => match k with
  | 0 => ("GridMarket", "days", "Ljava/util/List;", true)
  | 1 => ("GridMarket", "today", "LGridMarket$Day;", false)
  | 2 => ("GridMarket", "limits", "[I", true)
  | 3 => ("GridMarket", "accounts", "[I", true)
  | 4 => ("GridMarket", "deposits", "[I", true)
  | 5 => ("GridMarket", "failed", "[Z", true)
  | _ => ("GridMarket", "house", "I", false)
def tyX1 : Nat → FieldType := fun k => match k with
  | 0 => .object "java/util/List"
  | 1 => .object "GridMarket$Day"
  | 2 => .array .int
  | 3 => .array .int
  | 4 => .array .int
  | 5 => .array .boolean
  | _ => .int
abbrev wsX10 : List Cond := u_ws RX1 TX1 7
theorem nmX1 : ∀ a, a < 7 → ∀ b, b < 7 → a ≠ b → (TX1 a).2.1 ≠ (TX1 b).2.1 := by decide +kernel
theorem tyX1_ok : ∀ k, k < 7 → parseFieldDescriptor (TX1 k).2.2.1 = some (tyX1 k) := by decide +kernel
abbrev cX1_init : ByteArray := prog_1_method_1_code
def yX1_init : MethodName := ⟨RX1, "<init>", "()V"⟩
def dkwX1_init_2 : List UInt8 := [16, 6, 188, 10, 181, 0, 27, 42, 16, 6, 188, 10, 181, 0, 30, 42, 16, 6, 188, 4, 181, 0, 33, 177]
abbrev dktX1_init_2 : List UInt8 := dkwX1_init_2 ++ []
def dkwX1_init_1 : List UInt8 := [181, 0, 19, 42, 6, 188, 10, 89, 3, 8, 79, 89, 4, 8, 79, 89, 5, 8, 79, 181, 0, 23, 42]
abbrev dktX1_init_1 : List UInt8 := dkwX1_init_1 ++ dktX1_init_2
def dkwX1_init_0 : List UInt8 := [42, 183, 0, 1, 42, 187, 0, 7, 89, 183, 0, 9, 181, 0, 10, 42, 187, 0, 16, 89, 183, 0, 18]
abbrev dktX1_init_0 : List UInt8 := dkwX1_init_0 ++ dktX1_init_1
theorem dksX1_init_0 : cX1_init.data.toList.drop 0 = dktX1_init_0 := by decide +kernel
theorem dksX1_init_1 : cX1_init.data.toList.drop 23 = dktX1_init_1 := dk_seg dksX1_init_0 23 rfl rfl
theorem dksX1_init_2 : cX1_init.data.toList.drop 46 = dktX1_init_2 := dk_seg dksX1_init_1 23 rfl rfl
theorem dX1_init_0 : decode cX1_init 0 = .ok (.aload_n 0, 1) := dk_42 (dk_at dksX1_init_0 0 rfl rfl)
theorem dX1_init_1 : decode cX1_init 1 = .ok (.invokespecial 1, 3) := dk_183 0 1 (dk_at dksX1_init_0 1 rfl rfl)
theorem dX1_init_4 : decode cX1_init 4 = .ok (.aload_n 0, 1) := dk_42 (dk_at dksX1_init_0 4 rfl rfl)
theorem dX1_init_5 : decode cX1_init 5 = .ok (.new 7, 3) := dk_187 0 7 (dk_at dksX1_init_0 5 rfl rfl)
theorem dX1_init_8 : decode cX1_init 8 = .ok (.dup, 1) := dk_89 (dk_at dksX1_init_0 8 rfl rfl)
theorem dX1_init_9 : decode cX1_init 9 = .ok (.invokespecial 9, 3) := dk_183 0 9 (dk_at dksX1_init_0 9 rfl rfl)
theorem dX1_init_12 : decode cX1_init 12 = .ok (.putfield 10, 3) := dk_181 0 10 (dk_at dksX1_init_0 12 rfl rfl)
theorem dX1_init_15 : decode cX1_init 15 = .ok (.aload_n 0, 1) := dk_42 (dk_at dksX1_init_0 15 rfl rfl)
theorem dX1_init_16 : decode cX1_init 16 = .ok (.new 16, 3) := dk_187 0 16 (dk_at dksX1_init_0 16 rfl rfl)
theorem dX1_init_19 : decode cX1_init 19 = .ok (.dup, 1) := dk_89 (dk_at dksX1_init_0 19 rfl rfl)
theorem dX1_init_20 : decode cX1_init 20 = .ok (.invokespecial 18, 3) := dk_183 0 18 (dk_at dksX1_init_0 20 rfl rfl)
theorem dX1_init_23 : decode cX1_init 23 = .ok (.putfield 19, 3) := dk_181 0 19 (dk_at dksX1_init_1 0 rfl rfl)
theorem dX1_init_26 : decode cX1_init 26 = .ok (.aload_n 0, 1) := dk_42 (dk_at dksX1_init_1 3 rfl rfl)
theorem dX1_init_27 : decode cX1_init 27 = .ok (.iconst 3, 1) := dk_6 (dk_at dksX1_init_1 4 rfl rfl)
theorem dX1_init_28 : decode cX1_init 28 = .ok (.newarray .int, 2) := dk_188_10 (dk_at dksX1_init_1 5 rfl rfl)
theorem dX1_init_30 : decode cX1_init 30 = .ok (.dup, 1) := dk_89 (dk_at dksX1_init_1 7 rfl rfl)
theorem dX1_init_31 : decode cX1_init 31 = .ok (.iconst 0, 1) := dk_3 (dk_at dksX1_init_1 8 rfl rfl)
theorem dX1_init_32 : decode cX1_init 32 = .ok (.iconst 5, 1) := dk_8 (dk_at dksX1_init_1 9 rfl rfl)
theorem dX1_init_33 : decode cX1_init 33 = .ok (.iastore, 1) := dk_79 (dk_at dksX1_init_1 10 rfl rfl)
theorem dX1_init_34 : decode cX1_init 34 = .ok (.dup, 1) := dk_89 (dk_at dksX1_init_1 11 rfl rfl)
theorem dX1_init_35 : decode cX1_init 35 = .ok (.iconst 1, 1) := dk_4 (dk_at dksX1_init_1 12 rfl rfl)
theorem dX1_init_36 : decode cX1_init 36 = .ok (.iconst 5, 1) := dk_8 (dk_at dksX1_init_1 13 rfl rfl)
theorem dX1_init_37 : decode cX1_init 37 = .ok (.iastore, 1) := dk_79 (dk_at dksX1_init_1 14 rfl rfl)
theorem dX1_init_38 : decode cX1_init 38 = .ok (.dup, 1) := dk_89 (dk_at dksX1_init_1 15 rfl rfl)
theorem dX1_init_39 : decode cX1_init 39 = .ok (.iconst 2, 1) := dk_5 (dk_at dksX1_init_1 16 rfl rfl)
theorem dX1_init_40 : decode cX1_init 40 = .ok (.iconst 5, 1) := dk_8 (dk_at dksX1_init_1 17 rfl rfl)
theorem dX1_init_41 : decode cX1_init 41 = .ok (.iastore, 1) := dk_79 (dk_at dksX1_init_1 18 rfl rfl)
theorem dX1_init_42 : decode cX1_init 42 = .ok (.putfield 23, 3) := dk_181 0 23 (dk_at dksX1_init_1 19 rfl rfl)
theorem dX1_init_45 : decode cX1_init 45 = .ok (.aload_n 0, 1) := dk_42 (dk_at dksX1_init_1 22 rfl rfl)
theorem dX1_init_46 : decode cX1_init 46 = .ok (.bipush 6, 2) := dk_16 6 (dk_at dksX1_init_2 0 rfl rfl)
theorem dX1_init_48 : decode cX1_init 48 = .ok (.newarray .int, 2) := dk_188_10 (dk_at dksX1_init_2 2 rfl rfl)
theorem dX1_init_50 : decode cX1_init 50 = .ok (.putfield 27, 3) := dk_181 0 27 (dk_at dksX1_init_2 4 rfl rfl)
theorem dX1_init_53 : decode cX1_init 53 = .ok (.aload_n 0, 1) := dk_42 (dk_at dksX1_init_2 7 rfl rfl)
theorem dX1_init_54 : decode cX1_init 54 = .ok (.bipush 6, 2) := dk_16 6 (dk_at dksX1_init_2 8 rfl rfl)
theorem dX1_init_56 : decode cX1_init 56 = .ok (.newarray .int, 2) := dk_188_10 (dk_at dksX1_init_2 10 rfl rfl)
theorem dX1_init_58 : decode cX1_init 58 = .ok (.putfield 30, 3) := dk_181 0 30 (dk_at dksX1_init_2 12 rfl rfl)
theorem dX1_init_61 : decode cX1_init 61 = .ok (.aload_n 0, 1) := dk_42 (dk_at dksX1_init_2 15 rfl rfl)
theorem dX1_init_62 : decode cX1_init 62 = .ok (.bipush 6, 2) := dk_16 6 (dk_at dksX1_init_2 16 rfl rfl)
theorem dX1_init_64 : decode cX1_init 64 = .ok (.newarray .boolean, 2) := dk_188_4 (dk_at dksX1_init_2 18 rfl rfl)
theorem dX1_init_66 : decode cX1_init 66 = .ok (.putfield 33, 3) := dk_181 0 33 (dk_at dksX1_init_2 20 rfl rfl)
theorem dX1_init_69 : decode cX1_init 69 = .ok (.return_, 1) := dk_177 (dk_at dksX1_init_2 23 rfl rfl)
abbrev cX1_day : ByteArray := prog_1_method_15_code
def yX1_day : MethodName := ⟨RX1, "day", "()I"⟩
def dkwX1_day_0 : List UInt8 := [42, 180, 0, 10, 185, 0, 70, 1, 0, 172]
abbrev dktX1_day_0 : List UInt8 := dkwX1_day_0 ++ []
theorem dksX1_day_0 : cX1_day.data.toList.drop 0 = dktX1_day_0 := by decide +kernel
theorem dX1_day_0 : decode cX1_day 0 = .ok (.aload_n 0, 1) := dk_42 (dk_at dksX1_day_0 0 rfl rfl)
theorem dX1_day_1 : decode cX1_day 1 = .ok (.getfield 10, 3) := dk_180 0 10 (dk_at dksX1_day_0 1 rfl rfl)
theorem dX1_day_4 : decode cX1_day 4 = .ok (.invokeinterface 70 1, 5) := by decide +kernel
theorem dX1_day_9 : decode cX1_day 9 = .ok (.ireturn, 1) := dk_172 (dk_at dksX1_day_0 9 rfl rfl)
abbrev cX1_phase : ByteArray := prog_1_method_16_code
def yX1_phase : MethodName := ⟨RX1, "phase", "()I"⟩
def dkwX1_phase_0 : List UInt8 := [42, 180, 0, 19, 180, 0, 57, 199, 0, 7, 3, 167, 0, 4, 4, 172]
abbrev dktX1_phase_0 : List UInt8 := dkwX1_phase_0 ++ []
theorem dksX1_phase_0 : cX1_phase.data.toList.drop 0 = dktX1_phase_0 := by decide +kernel
theorem dX1_phase_0 : decode cX1_phase 0 = .ok (.aload_n 0, 1) := dk_42 (dk_at dksX1_phase_0 0 rfl rfl)
theorem dX1_phase_1 : decode cX1_phase 1 = .ok (.getfield 19, 3) := dk_180 0 19 (dk_at dksX1_phase_0 1 rfl rfl)
theorem dX1_phase_4 : decode cX1_phase 4 = .ok (.getfield 57, 3) := dk_180 0 57 (dk_at dksX1_phase_0 4 rfl rfl)
theorem dX1_phase_7 : decode cX1_phase 7 = .ok (.ifnonnull 7, 3) := dk_199 0 7 (dk_at dksX1_phase_0 7 rfl rfl)
theorem dX1_phase_10 : decode cX1_phase 10 = .ok (.iconst 0, 1) := dk_3 (dk_at dksX1_phase_0 10 rfl rfl)
theorem dX1_phase_11 : decode cX1_phase 11 = .ok (.goto 4, 3) := dk_167 0 4 (dk_at dksX1_phase_0 11 rfl rfl)
theorem dX1_phase_14 : decode cX1_phase 14 = .ok (.iconst 1, 1) := dk_4 (dk_at dksX1_phase_0 14 rfl rfl)
theorem dX1_phase_15 : decode cX1_phase 15 = .ok (.ireturn, 1) := dk_172 (dk_at dksX1_phase_0 15 rfl rfl)
abbrev cX1_house : ByteArray := prog_1_method_33_code
def yX1_house : MethodName := ⟨RX1, "house", "()I"⟩
theorem dX1_house_0 : decode cX1_house 0 = .ok (.aload_n 0, 1) := by decide +kernel
theorem dX1_house_1 : decode cX1_house 1 = .ok (.getfield 186, 3) := by decide +kernel
theorem dX1_house_4 : decode cX1_house 4 = .ok (.ireturn, 1) := by decide +kernel
abbrev cX1_deposit : ByteArray := prog_1_method_2_code
def yX1_deposit : MethodName := ⟨RX1, "deposit", "(II)I"⟩
def dkwX1_deposit_3 : List UInt8 := [27, 46, 172]
abbrev dktX1_deposit_3 : List UInt8 := dkwX1_deposit_3 ++ []
def dkwX1_deposit_2 : List UInt8 := [42, 180, 0, 30, 27, 92, 46, 28, 96, 79, 42, 180, 0, 27, 27, 92, 46, 28, 96, 79, 42, 180, 0, 27]
abbrev dktX1_deposit_2 : List UInt8 := dkwX1_deposit_2 ++ dktX1_deposit_3
def dkwX1_deposit_1 : List UInt8 := [154, 0, 20, 42, 180, 0, 30, 27, 46, 28, 96, 18, 53, 163, 0, 7, 4, 167, 0, 4, 3, 184, 0, 54]
abbrev dktX1_deposit_1 : List UInt8 := dkwX1_deposit_1 ++ dktX1_deposit_2
def dkwX1_deposit_0 : List UInt8 := [27, 184, 0, 37, 184, 0, 41, 28, 4, 18, 45, 184, 0, 46, 184, 0, 50, 42, 180, 0, 33, 27, 51]
abbrev dktX1_deposit_0 : List UInt8 := dkwX1_deposit_0 ++ dktX1_deposit_1
theorem dksX1_deposit_0 : cX1_deposit.data.toList.drop 0 = dktX1_deposit_0 := by decide +kernel
theorem dksX1_deposit_1 : cX1_deposit.data.toList.drop 23 = dktX1_deposit_1 := dk_seg dksX1_deposit_0 23 rfl rfl
theorem dksX1_deposit_2 : cX1_deposit.data.toList.drop 47 = dktX1_deposit_2 := dk_seg dksX1_deposit_1 24 rfl rfl
theorem dksX1_deposit_3 : cX1_deposit.data.toList.drop 71 = dktX1_deposit_3 := dk_seg dksX1_deposit_2 24 rfl rfl
theorem dX1_deposit_0 : decode cX1_deposit 0 = .ok (.iload_n 1, 1) := dk_27 (dk_at dksX1_deposit_0 0 rfl rfl)
theorem dX1_deposit_1 : decode cX1_deposit 1 = .ok (.invokestatic 37, 3) := dk_184 0 37 (dk_at dksX1_deposit_0 1 rfl rfl)
theorem dX1_deposit_4 : decode cX1_deposit 4 = .ok (.invokestatic 41, 3) := dk_184 0 41 (dk_at dksX1_deposit_0 4 rfl rfl)
theorem dX1_deposit_7 : decode cX1_deposit 7 = .ok (.iload_n 2, 1) := dk_28 (dk_at dksX1_deposit_0 7 rfl rfl)
theorem dX1_deposit_8 : decode cX1_deposit 8 = .ok (.iconst 1, 1) := dk_4 (dk_at dksX1_deposit_0 8 rfl rfl)
theorem dX1_deposit_9 : decode cX1_deposit 9 = .ok (.ldc 45, 2) := dk_18 45 (dk_at dksX1_deposit_0 9 rfl rfl)
theorem dX1_deposit_11 : decode cX1_deposit 11 = .ok (.invokestatic 46, 3) := dk_184 0 46 (dk_at dksX1_deposit_0 11 rfl rfl)
theorem dX1_deposit_14 : decode cX1_deposit 14 = .ok (.invokestatic 50, 3) := dk_184 0 50 (dk_at dksX1_deposit_0 14 rfl rfl)
theorem dX1_deposit_17 : decode cX1_deposit 17 = .ok (.aload_n 0, 1) := dk_42 (dk_at dksX1_deposit_0 17 rfl rfl)
theorem dX1_deposit_18 : decode cX1_deposit 18 = .ok (.getfield 33, 3) := dk_180 0 33 (dk_at dksX1_deposit_0 18 rfl rfl)
theorem dX1_deposit_21 : decode cX1_deposit 21 = .ok (.iload_n 1, 1) := dk_27 (dk_at dksX1_deposit_0 21 rfl rfl)
theorem dX1_deposit_22 : decode cX1_deposit 22 = .ok (.baload, 1) := dk_51 (dk_at dksX1_deposit_0 22 rfl rfl)
theorem dX1_deposit_23 : decode cX1_deposit 23 = .ok (.ifCond .ne 20, 3) := dk_154 0 20 (dk_at dksX1_deposit_1 0 rfl rfl)
theorem dX1_deposit_26 : decode cX1_deposit 26 = .ok (.aload_n 0, 1) := dk_42 (dk_at dksX1_deposit_1 3 rfl rfl)
theorem dX1_deposit_27 : decode cX1_deposit 27 = .ok (.getfield 30, 3) := dk_180 0 30 (dk_at dksX1_deposit_1 4 rfl rfl)
theorem dX1_deposit_30 : decode cX1_deposit 30 = .ok (.iload_n 1, 1) := dk_27 (dk_at dksX1_deposit_1 7 rfl rfl)
theorem dX1_deposit_31 : decode cX1_deposit 31 = .ok (.iaload, 1) := dk_46 (dk_at dksX1_deposit_1 8 rfl rfl)
theorem dX1_deposit_32 : decode cX1_deposit 32 = .ok (.iload_n 2, 1) := dk_28 (dk_at dksX1_deposit_1 9 rfl rfl)
theorem dX1_deposit_33 : decode cX1_deposit 33 = .ok (.iadd, 1) := dk_96 (dk_at dksX1_deposit_1 10 rfl rfl)
theorem dX1_deposit_34 : decode cX1_deposit 34 = .ok (.ldc 53, 2) := dk_18 53 (dk_at dksX1_deposit_1 11 rfl rfl)
theorem dX1_deposit_36 : decode cX1_deposit 36 = .ok (.if_icmp .gt 7, 3) := dk_163 0 7 (dk_at dksX1_deposit_1 13 rfl rfl)
theorem dX1_deposit_39 : decode cX1_deposit 39 = .ok (.iconst 1, 1) := dk_4 (dk_at dksX1_deposit_1 16 rfl rfl)
theorem dX1_deposit_40 : decode cX1_deposit 40 = .ok (.goto 4, 3) := dk_167 0 4 (dk_at dksX1_deposit_1 17 rfl rfl)
theorem dX1_deposit_43 : decode cX1_deposit 43 = .ok (.iconst 0, 1) := dk_3 (dk_at dksX1_deposit_1 20 rfl rfl)
theorem dX1_deposit_44 : decode cX1_deposit 44 = .ok (.invokestatic 54, 3) := dk_184 0 54 (dk_at dksX1_deposit_1 21 rfl rfl)
theorem dX1_deposit_47 : decode cX1_deposit 47 = .ok (.aload_n 0, 1) := dk_42 (dk_at dksX1_deposit_2 0 rfl rfl)
theorem dX1_deposit_48 : decode cX1_deposit 48 = .ok (.getfield 30, 3) := dk_180 0 30 (dk_at dksX1_deposit_2 1 rfl rfl)
theorem dX1_deposit_51 : decode cX1_deposit 51 = .ok (.iload_n 1, 1) := dk_27 (dk_at dksX1_deposit_2 4 rfl rfl)
theorem dX1_deposit_52 : decode cX1_deposit 52 = .ok (.dup2, 1) := dk_92 (dk_at dksX1_deposit_2 5 rfl rfl)
theorem dX1_deposit_53 : decode cX1_deposit 53 = .ok (.iaload, 1) := dk_46 (dk_at dksX1_deposit_2 6 rfl rfl)
theorem dX1_deposit_54 : decode cX1_deposit 54 = .ok (.iload_n 2, 1) := dk_28 (dk_at dksX1_deposit_2 7 rfl rfl)
theorem dX1_deposit_55 : decode cX1_deposit 55 = .ok (.iadd, 1) := dk_96 (dk_at dksX1_deposit_2 8 rfl rfl)
theorem dX1_deposit_56 : decode cX1_deposit 56 = .ok (.iastore, 1) := dk_79 (dk_at dksX1_deposit_2 9 rfl rfl)
theorem dX1_deposit_57 : decode cX1_deposit 57 = .ok (.aload_n 0, 1) := dk_42 (dk_at dksX1_deposit_2 10 rfl rfl)
theorem dX1_deposit_58 : decode cX1_deposit 58 = .ok (.getfield 27, 3) := dk_180 0 27 (dk_at dksX1_deposit_2 11 rfl rfl)
theorem dX1_deposit_61 : decode cX1_deposit 61 = .ok (.iload_n 1, 1) := dk_27 (dk_at dksX1_deposit_2 14 rfl rfl)
theorem dX1_deposit_62 : decode cX1_deposit 62 = .ok (.dup2, 1) := dk_92 (dk_at dksX1_deposit_2 15 rfl rfl)
theorem dX1_deposit_63 : decode cX1_deposit 63 = .ok (.iaload, 1) := dk_46 (dk_at dksX1_deposit_2 16 rfl rfl)
theorem dX1_deposit_64 : decode cX1_deposit 64 = .ok (.iload_n 2, 1) := dk_28 (dk_at dksX1_deposit_2 17 rfl rfl)
theorem dX1_deposit_65 : decode cX1_deposit 65 = .ok (.iadd, 1) := dk_96 (dk_at dksX1_deposit_2 18 rfl rfl)
theorem dX1_deposit_66 : decode cX1_deposit 66 = .ok (.iastore, 1) := dk_79 (dk_at dksX1_deposit_2 19 rfl rfl)
theorem dX1_deposit_67 : decode cX1_deposit 67 = .ok (.aload_n 0, 1) := dk_42 (dk_at dksX1_deposit_2 20 rfl rfl)
theorem dX1_deposit_68 : decode cX1_deposit 68 = .ok (.getfield 27, 3) := dk_180 0 27 (dk_at dksX1_deposit_2 21 rfl rfl)
theorem dX1_deposit_71 : decode cX1_deposit 71 = .ok (.iload_n 1, 1) := dk_27 (dk_at dksX1_deposit_3 0 rfl rfl)
theorem dX1_deposit_72 : decode cX1_deposit 72 = .ok (.iaload, 1) := dk_46 (dk_at dksX1_deposit_3 1 rfl rfl)
theorem dX1_deposit_73 : decode cX1_deposit 73 = .ok (.ireturn, 1) := dk_172 (dk_at dksX1_deposit_3 2 rfl rfl)
abbrev cX1_isFirm : ByteArray := prog_1_method_38_code
def yX1_isFirm : MethodName := ⟨RX1, "isFirm", "(I)Z"⟩
def dkwX1_isFirm_0 : List UInt8 := [26, 3, 8, 184, 0, 46, 172]
abbrev dktX1_isFirm_0 : List UInt8 := dkwX1_isFirm_0 ++ []
theorem dksX1_isFirm_0 : cX1_isFirm.data.toList.drop 0 = dktX1_isFirm_0 := by decide +kernel
theorem dX1_isFirm_0 : decode cX1_isFirm 0 = .ok (.iload_n 0, 1) := dk_26 (dk_at dksX1_isFirm_0 0 rfl rfl)
theorem dX1_isFirm_1 : decode cX1_isFirm 1 = .ok (.iconst 0, 1) := dk_3 (dk_at dksX1_isFirm_0 1 rfl rfl)
theorem dX1_isFirm_2 : decode cX1_isFirm 2 = .ok (.iconst 5, 1) := dk_8 (dk_at dksX1_isFirm_0 2 rfl rfl)
theorem dX1_isFirm_3 : decode cX1_isFirm 3 = .ok (.invokestatic 46, 3) := dk_184 0 46 (dk_at dksX1_isFirm_0 3 rfl rfl)
theorem dX1_isFirm_6 : decode cX1_isFirm 6 = .ok (.ireturn, 1) := dk_172 (dk_at dksX1_isFirm_0 6 rfl rfl)
abbrev cX1_isIn : ByteArray := prog_1_method_37_code
def yX1_isIn : MethodName := ⟨RX1, "isIn", "(III)Z"⟩
def dkwX1_isIn_0 : List UInt8 := [26, 27, 161, 0, 12, 26, 28, 163, 0, 7, 4, 167, 0, 4, 3, 172]
abbrev dktX1_isIn_0 : List UInt8 := dkwX1_isIn_0 ++ []
theorem dksX1_isIn_0 : cX1_isIn.data.toList.drop 0 = dktX1_isIn_0 := by decide +kernel
theorem dX1_isIn_0 : decode cX1_isIn 0 = .ok (.iload_n 0, 1) := dk_26 (dk_at dksX1_isIn_0 0 rfl rfl)
theorem dX1_isIn_1 : decode cX1_isIn 1 = .ok (.iload_n 1, 1) := dk_27 (dk_at dksX1_isIn_0 1 rfl rfl)
theorem dX1_isIn_2 : decode cX1_isIn 2 = .ok (.if_icmp .lt 12, 3) := dk_161 0 12 (dk_at dksX1_isIn_0 2 rfl rfl)
theorem dX1_isIn_5 : decode cX1_isIn 5 = .ok (.iload_n 0, 1) := dk_26 (dk_at dksX1_isIn_0 5 rfl rfl)
theorem dX1_isIn_6 : decode cX1_isIn 6 = .ok (.iload_n 2, 1) := dk_28 (dk_at dksX1_isIn_0 6 rfl rfl)
theorem dX1_isIn_7 : decode cX1_isIn 7 = .ok (.if_icmp .gt 7, 3) := dk_163 0 7 (dk_at dksX1_isIn_0 7 rfl rfl)
theorem dX1_isIn_10 : decode cX1_isIn 10 = .ok (.iconst 1, 1) := dk_4 (dk_at dksX1_isIn_0 10 rfl rfl)
theorem dX1_isIn_11 : decode cX1_isIn 11 = .ok (.goto 4, 3) := dk_167 0 4 (dk_at dksX1_isIn_0 11 rfl rfl)
theorem dX1_isIn_14 : decode cX1_isIn 14 = .ok (.iconst 0, 1) := dk_3 (dk_at dksX1_isIn_0 14 rfl rfl)
theorem dX1_isIn_15 : decode cX1_isIn 15 = .ok (.ireturn, 1) := dk_172 (dk_at dksX1_isIn_0 15 rfl rfl)
abbrev cX1_place : ByteArray := prog_1_method_34_code
def yX1_place : MethodName := ⟨RX1, "place", "(Z)V"⟩
def dkwX1_place_0 : List UInt8 := [26, 154, 0, 13, 187, 0, 252, 89, 18, 254, 183, 1, 0, 191, 177]
abbrev dktX1_place_0 : List UInt8 := dkwX1_place_0 ++ []
theorem dksX1_place_0 : cX1_place.data.toList.drop 0 = dktX1_place_0 := by decide +kernel
theorem dX1_place_0 : decode cX1_place 0 = .ok (.iload_n 0, 1) := dk_26 (dk_at dksX1_place_0 0 rfl rfl)
theorem dX1_place_1 : decode cX1_place 1 = .ok (.ifCond .ne 13, 3) := dk_154 0 13 (dk_at dksX1_place_0 1 rfl rfl)
theorem dX1_place_4 : decode cX1_place 4 = .ok (.new 252, 3) := dk_187 0 252 (dk_at dksX1_place_0 4 rfl rfl)
theorem dX1_place_7 : decode cX1_place 7 = .ok (.dup, 1) := dk_89 (dk_at dksX1_place_0 7 rfl rfl)
theorem dX1_place_8 : decode cX1_place 8 = .ok (.ldc 254, 2) := dk_18 254 (dk_at dksX1_place_0 8 rfl rfl)
theorem dX1_place_10 : decode cX1_place 10 = .ok (.invokespecial 256, 3) := dk_183 1 0 (dk_at dksX1_place_0 10 rfl rfl)
theorem dX1_place_13 : decode cX1_place 13 = .ok (.athrow, 1) := dk_191 (dk_at dksX1_place_0 13 rfl rfl)
theorem dX1_place_14 : decode cX1_place 14 = .ok (.return_, 1) := dk_177 (dk_at dksX1_place_0 14 rfl rfl)
abbrev cX1_check : ByteArray := prog_1_method_35_code
def yX1_check : MethodName := ⟨RX1, "check", "(Z)V"⟩
def dkwX1_check_0 : List UInt8 := [26, 154, 0, 14, 187, 1, 3, 89, 19, 1, 5, 183, 1, 7, 191, 177]
abbrev dktX1_check_0 : List UInt8 := dkwX1_check_0 ++ []
theorem dksX1_check_0 : cX1_check.data.toList.drop 0 = dktX1_check_0 := by decide +kernel
theorem dX1_check_0 : decode cX1_check 0 = .ok (.iload_n 0, 1) := dk_26 (dk_at dksX1_check_0 0 rfl rfl)
theorem dX1_check_1 : decode cX1_check 1 = .ok (.ifCond .ne 14, 3) := dk_154 0 14 (dk_at dksX1_check_0 1 rfl rfl)
theorem dX1_check_4 : decode cX1_check 4 = .ok (.new 259, 3) := dk_187 1 3 (dk_at dksX1_check_0 4 rfl rfl)
theorem dX1_check_7 : decode cX1_check 7 = .ok (.dup, 1) := dk_89 (dk_at dksX1_check_0 7 rfl rfl)
theorem dX1_check_8 : decode cX1_check 8 = .ok (.ldc_w 261, 3) := dk_19 1 5 (dk_at dksX1_check_0 8 rfl rfl)
theorem dX1_check_11 : decode cX1_check 11 = .ok (.invokespecial 263, 3) := dk_183 1 7 (dk_at dksX1_check_0 11 rfl rfl)
theorem dX1_check_14 : decode cX1_check 14 = .ok (.athrow, 1) := dk_191 (dk_at dksX1_check_0 14 rfl rfl)
theorem dX1_check_15 : decode cX1_check 15 = .ok (.return_, 1) := dk_177 (dk_at dksX1_check_0 15 rfl rfl)
abbrev cX1_allow : ByteArray := prog_1_method_36_code
def yX1_allow : MethodName := ⟨RX1, "allow", "(Z)V"⟩
def dkwX1_allow_0 : List UInt8 := [26, 154, 0, 14, 187, 0, 128, 89, 19, 1, 8, 183, 1, 10, 191, 177]
abbrev dktX1_allow_0 : List UInt8 := dkwX1_allow_0 ++ []
theorem dksX1_allow_0 : cX1_allow.data.toList.drop 0 = dktX1_allow_0 := by decide +kernel
theorem dX1_allow_0 : decode cX1_allow 0 = .ok (.iload_n 0, 1) := dk_26 (dk_at dksX1_allow_0 0 rfl rfl)
theorem dX1_allow_1 : decode cX1_allow 1 = .ok (.ifCond .ne 14, 3) := dk_154 0 14 (dk_at dksX1_allow_0 1 rfl rfl)
theorem dX1_allow_4 : decode cX1_allow 4 = .ok (.new 128, 3) := dk_187 0 128 (dk_at dksX1_allow_0 4 rfl rfl)
theorem dX1_allow_7 : decode cX1_allow 7 = .ok (.dup, 1) := dk_89 (dk_at dksX1_allow_0 7 rfl rfl)
theorem dX1_allow_8 : decode cX1_allow 8 = .ok (.ldc_w 264, 3) := dk_19 1 8 (dk_at dksX1_allow_0 8 rfl rfl)
theorem dX1_allow_11 : decode cX1_allow 11 = .ok (.invokespecial 266, 3) := dk_183 1 10 (dk_at dksX1_allow_0 11 rfl rfl)
theorem dX1_allow_14 : decode cX1_allow 14 = .ok (.athrow, 1) := dk_191 (dk_at dksX1_allow_0 14 rfl rfl)
theorem dX1_allow_15 : decode cX1_allow 15 = .ok (.return_, 1) := dk_177 (dk_at dksX1_allow_0 15 rfl rfl)
abbrev cX1_setLimit : ByteArray := prog_1_method_3_code
def yX1_setLimit : MethodName := ⟨RX1, "setLimit", "(II)I"⟩
def dkwX1_setLimit_2 : List UInt8 := [180, 0, 23, 27, 28, 79, 29, 172]
abbrev dktX1_setLimit_2 : List UInt8 := dkwX1_setLimit_2 ++ []
def dkwX1_setLimit_1 : List UInt8 := [180, 0, 57, 199, 0, 7, 4, 167, 0, 4, 3, 184, 0, 54, 42, 180, 0, 23, 27, 46, 62, 42]
abbrev dktX1_setLimit_1 : List UInt8 := dkwX1_setLimit_1 ++ dktX1_setLimit_2
def dkwX1_setLimit_0 : List UInt8 := [27, 3, 5, 184, 0, 46, 184, 0, 41, 28, 3, 16, 10, 184, 0, 46, 184, 0, 50, 42, 180, 0, 19]
abbrev dktX1_setLimit_0 : List UInt8 := dkwX1_setLimit_0 ++ dktX1_setLimit_1
theorem dksX1_setLimit_0 : cX1_setLimit.data.toList.drop 0 = dktX1_setLimit_0 := by decide +kernel
theorem dksX1_setLimit_1 : cX1_setLimit.data.toList.drop 23 = dktX1_setLimit_1 := dk_seg dksX1_setLimit_0 23 rfl rfl
theorem dksX1_setLimit_2 : cX1_setLimit.data.toList.drop 45 = dktX1_setLimit_2 := dk_seg dksX1_setLimit_1 22 rfl rfl
theorem dX1_setLimit_0 : decode cX1_setLimit 0 = .ok (.iload_n 1, 1) := dk_27 (dk_at dksX1_setLimit_0 0 rfl rfl)
theorem dX1_setLimit_1 : decode cX1_setLimit 1 = .ok (.iconst 0, 1) := dk_3 (dk_at dksX1_setLimit_0 1 rfl rfl)
theorem dX1_setLimit_2 : decode cX1_setLimit 2 = .ok (.iconst 2, 1) := dk_5 (dk_at dksX1_setLimit_0 2 rfl rfl)
theorem dX1_setLimit_3 : decode cX1_setLimit 3 = .ok (.invokestatic 46, 3) := dk_184 0 46 (dk_at dksX1_setLimit_0 3 rfl rfl)
theorem dX1_setLimit_6 : decode cX1_setLimit 6 = .ok (.invokestatic 41, 3) := dk_184 0 41 (dk_at dksX1_setLimit_0 6 rfl rfl)
theorem dX1_setLimit_9 : decode cX1_setLimit 9 = .ok (.iload_n 2, 1) := dk_28 (dk_at dksX1_setLimit_0 9 rfl rfl)
theorem dX1_setLimit_10 : decode cX1_setLimit 10 = .ok (.iconst 0, 1) := dk_3 (dk_at dksX1_setLimit_0 10 rfl rfl)
theorem dX1_setLimit_11 : decode cX1_setLimit 11 = .ok (.bipush 10, 2) := dk_16 10 (dk_at dksX1_setLimit_0 11 rfl rfl)
theorem dX1_setLimit_13 : decode cX1_setLimit 13 = .ok (.invokestatic 46, 3) := dk_184 0 46 (dk_at dksX1_setLimit_0 13 rfl rfl)
theorem dX1_setLimit_16 : decode cX1_setLimit 16 = .ok (.invokestatic 50, 3) := dk_184 0 50 (dk_at dksX1_setLimit_0 16 rfl rfl)
theorem dX1_setLimit_19 : decode cX1_setLimit 19 = .ok (.aload_n 0, 1) := dk_42 (dk_at dksX1_setLimit_0 19 rfl rfl)
theorem dX1_setLimit_20 : decode cX1_setLimit 20 = .ok (.getfield 19, 3) := dk_180 0 19 (dk_at dksX1_setLimit_0 20 rfl rfl)
theorem dX1_setLimit_23 : decode cX1_setLimit 23 = .ok (.getfield 57, 3) := dk_180 0 57 (dk_at dksX1_setLimit_1 0 rfl rfl)
theorem dX1_setLimit_26 : decode cX1_setLimit 26 = .ok (.ifnonnull 7, 3) := dk_199 0 7 (dk_at dksX1_setLimit_1 3 rfl rfl)
theorem dX1_setLimit_29 : decode cX1_setLimit 29 = .ok (.iconst 1, 1) := dk_4 (dk_at dksX1_setLimit_1 6 rfl rfl)
theorem dX1_setLimit_30 : decode cX1_setLimit 30 = .ok (.goto 4, 3) := dk_167 0 4 (dk_at dksX1_setLimit_1 7 rfl rfl)
theorem dX1_setLimit_33 : decode cX1_setLimit 33 = .ok (.iconst 0, 1) := dk_3 (dk_at dksX1_setLimit_1 10 rfl rfl)
theorem dX1_setLimit_34 : decode cX1_setLimit 34 = .ok (.invokestatic 54, 3) := dk_184 0 54 (dk_at dksX1_setLimit_1 11 rfl rfl)
theorem dX1_setLimit_37 : decode cX1_setLimit 37 = .ok (.aload_n 0, 1) := dk_42 (dk_at dksX1_setLimit_1 14 rfl rfl)
theorem dX1_setLimit_38 : decode cX1_setLimit 38 = .ok (.getfield 23, 3) := dk_180 0 23 (dk_at dksX1_setLimit_1 15 rfl rfl)
theorem dX1_setLimit_41 : decode cX1_setLimit 41 = .ok (.iload_n 1, 1) := dk_27 (dk_at dksX1_setLimit_1 18 rfl rfl)
theorem dX1_setLimit_42 : decode cX1_setLimit 42 = .ok (.iaload, 1) := dk_46 (dk_at dksX1_setLimit_1 19 rfl rfl)
theorem dX1_setLimit_43 : decode cX1_setLimit 43 = .ok (.istore_n 3, 1) := dk_62 (dk_at dksX1_setLimit_1 20 rfl rfl)
theorem dX1_setLimit_44 : decode cX1_setLimit 44 = .ok (.aload_n 0, 1) := dk_42 (dk_at dksX1_setLimit_1 21 rfl rfl)
theorem dX1_setLimit_45 : decode cX1_setLimit 45 = .ok (.getfield 23, 3) := dk_180 0 23 (dk_at dksX1_setLimit_2 0 rfl rfl)
theorem dX1_setLimit_48 : decode cX1_setLimit 48 = .ok (.iload_n 1, 1) := dk_27 (dk_at dksX1_setLimit_2 3 rfl rfl)
theorem dX1_setLimit_49 : decode cX1_setLimit 49 = .ok (.iload_n 2, 1) := dk_28 (dk_at dksX1_setLimit_2 4 rfl rfl)
theorem dX1_setLimit_50 : decode cX1_setLimit 50 = .ok (.iastore, 1) := dk_79 (dk_at dksX1_setLimit_2 5 rfl rfl)
theorem dX1_setLimit_51 : decode cX1_setLimit 51 = .ok (.iload_n 3, 1) := dk_29 (dk_at dksX1_setLimit_2 6 rfl rfl)
theorem dX1_setLimit_52 : decode cX1_setLimit 52 = .ok (.ireturn, 1) := dk_172 (dk_at dksX1_setLimit_2 7 rfl rfl)
abbrev cX1_bid : ByteArray := prog_1_method_4_code
def yX1_bid : MethodName := ⟨RX1, "bid", "(IIIZII)I"⟩
def dkwX1_bid_6 : List UInt8 := [185, 0, 70, 1, 0, 4, 100, 172]
abbrev dktX1_bid_6 : List UInt8 := dkwX1_bid_6 ++ []
def dkwX1_bid_5 : List UInt8 := [29, 21, 4, 21, 5, 21, 6, 183, 0, 78, 185, 0, 81, 2, 0, 87, 42, 180, 0, 19, 180, 0, 67]
abbrev dktX1_bid_5 : List UInt8 := dkwX1_bid_5 ++ dktX1_bid_6
def dkwX1_bid_4 : List UInt8 := [162, 0, 7, 4, 167, 0, 4, 3, 184, 0, 54, 42, 180, 0, 19, 180, 0, 67, 187, 0, 76, 89, 27, 28]
abbrev dktX1_bid_4 : List UInt8 := dkwX1_bid_4 ++ dktX1_bid_5
def dkwX1_bid_3 : List UInt8 := [180, 0, 19, 180, 0, 57, 199, 0, 24, 42, 180, 0, 19, 180, 0, 67, 185, 0, 70, 1, 0, 16, 40]
abbrev dktX1_bid_3 : List UInt8 := dkwX1_bid_3 ++ dktX1_bid_4
def dkwX1_bid_2 : List UInt8 := [184, 0, 46, 153, 0, 7, 4, 167, 0, 4, 3, 184, 0, 50, 42, 180, 0, 33, 27, 51, 154, 0, 34, 42]
abbrev dktX1_bid_2 : List UInt8 := dkwX1_bid_2 ++ dktX1_bid_3
def dkwX1_bid_1 : List UInt8 := [167, 0, 4, 3, 184, 0, 41, 21, 5, 3, 17, 0, 200, 184, 0, 46, 153, 0, 18, 21, 6, 4, 16, 10]
abbrev dktX1_bid_1 : List UInt8 := dkwX1_bid_1 ++ dktX1_bid_2
def dkwX1_bid_0 : List UInt8 := [27, 184, 0, 37, 153, 0, 21, 28, 184, 0, 61, 153, 0, 14, 29, 184, 0, 64, 153, 0, 7, 4]
abbrev dktX1_bid_0 : List UInt8 := dkwX1_bid_0 ++ dktX1_bid_1
theorem dksX1_bid_0 : cX1_bid.data.toList.drop 0 = dktX1_bid_0 := by decide +kernel
theorem dksX1_bid_1 : cX1_bid.data.toList.drop 22 = dktX1_bid_1 := dk_seg dksX1_bid_0 22 rfl rfl
theorem dksX1_bid_2 : cX1_bid.data.toList.drop 46 = dktX1_bid_2 := dk_seg dksX1_bid_1 24 rfl rfl
theorem dksX1_bid_3 : cX1_bid.data.toList.drop 70 = dktX1_bid_3 := dk_seg dksX1_bid_2 24 rfl rfl
theorem dksX1_bid_4 : cX1_bid.data.toList.drop 93 = dktX1_bid_4 := dk_seg dksX1_bid_3 23 rfl rfl
theorem dksX1_bid_5 : cX1_bid.data.toList.drop 117 = dktX1_bid_5 := dk_seg dksX1_bid_4 24 rfl rfl
theorem dksX1_bid_6 : cX1_bid.data.toList.drop 140 = dktX1_bid_6 := dk_seg dksX1_bid_5 23 rfl rfl
theorem dX1_bid_0 : decode cX1_bid 0 = .ok (.iload_n 1, 1) := dk_27 (dk_at dksX1_bid_0 0 rfl rfl)
theorem dX1_bid_1 : decode cX1_bid 1 = .ok (.invokestatic 37, 3) := dk_184 0 37 (dk_at dksX1_bid_0 1 rfl rfl)
theorem dX1_bid_4 : decode cX1_bid 4 = .ok (.ifCond .eq 21, 3) := dk_153 0 21 (dk_at dksX1_bid_0 4 rfl rfl)
theorem dX1_bid_7 : decode cX1_bid 7 = .ok (.iload_n 2, 1) := dk_28 (dk_at dksX1_bid_0 7 rfl rfl)
theorem dX1_bid_8 : decode cX1_bid 8 = .ok (.invokestatic 61, 3) := dk_184 0 61 (dk_at dksX1_bid_0 8 rfl rfl)
theorem dX1_bid_11 : decode cX1_bid 11 = .ok (.ifCond .eq 14, 3) := dk_153 0 14 (dk_at dksX1_bid_0 11 rfl rfl)
theorem dX1_bid_14 : decode cX1_bid 14 = .ok (.iload_n 3, 1) := dk_29 (dk_at dksX1_bid_0 14 rfl rfl)
theorem dX1_bid_15 : decode cX1_bid 15 = .ok (.invokestatic 64, 3) := dk_184 0 64 (dk_at dksX1_bid_0 15 rfl rfl)
theorem dX1_bid_18 : decode cX1_bid 18 = .ok (.ifCond .eq 7, 3) := dk_153 0 7 (dk_at dksX1_bid_0 18 rfl rfl)
theorem dX1_bid_21 : decode cX1_bid 21 = .ok (.iconst 1, 1) := dk_4 (dk_at dksX1_bid_0 21 rfl rfl)
theorem dX1_bid_22 : decode cX1_bid 22 = .ok (.goto 4, 3) := dk_167 0 4 (dk_at dksX1_bid_1 0 rfl rfl)
theorem dX1_bid_25 : decode cX1_bid 25 = .ok (.iconst 0, 1) := dk_3 (dk_at dksX1_bid_1 3 rfl rfl)
theorem dX1_bid_26 : decode cX1_bid 26 = .ok (.invokestatic 41, 3) := dk_184 0 41 (dk_at dksX1_bid_1 4 rfl rfl)
theorem dX1_bid_29 : decode cX1_bid 29 = .ok (.iload 5, 2) := dk_21 5 (dk_at dksX1_bid_1 7 rfl rfl)
theorem dX1_bid_31 : decode cX1_bid 31 = .ok (.iconst 0, 1) := dk_3 (dk_at dksX1_bid_1 9 rfl rfl)
theorem dX1_bid_32 : decode cX1_bid 32 = .ok (.sipush 200, 3) := dk_17 0 200 (dk_at dksX1_bid_1 10 rfl rfl)
theorem dX1_bid_35 : decode cX1_bid 35 = .ok (.invokestatic 46, 3) := dk_184 0 46 (dk_at dksX1_bid_1 13 rfl rfl)
theorem dX1_bid_38 : decode cX1_bid 38 = .ok (.ifCond .eq 18, 3) := dk_153 0 18 (dk_at dksX1_bid_1 16 rfl rfl)
theorem dX1_bid_41 : decode cX1_bid 41 = .ok (.iload 6, 2) := dk_21 6 (dk_at dksX1_bid_1 19 rfl rfl)
theorem dX1_bid_43 : decode cX1_bid 43 = .ok (.iconst 1, 1) := dk_4 (dk_at dksX1_bid_1 21 rfl rfl)
theorem dX1_bid_44 : decode cX1_bid 44 = .ok (.bipush 10, 2) := dk_16 10 (dk_at dksX1_bid_1 22 rfl rfl)
theorem dX1_bid_46 : decode cX1_bid 46 = .ok (.invokestatic 46, 3) := dk_184 0 46 (dk_at dksX1_bid_2 0 rfl rfl)
theorem dX1_bid_49 : decode cX1_bid 49 = .ok (.ifCond .eq 7, 3) := dk_153 0 7 (dk_at dksX1_bid_2 3 rfl rfl)
theorem dX1_bid_52 : decode cX1_bid 52 = .ok (.iconst 1, 1) := dk_4 (dk_at dksX1_bid_2 6 rfl rfl)
theorem dX1_bid_53 : decode cX1_bid 53 = .ok (.goto 4, 3) := dk_167 0 4 (dk_at dksX1_bid_2 7 rfl rfl)
theorem dX1_bid_56 : decode cX1_bid 56 = .ok (.iconst 0, 1) := dk_3 (dk_at dksX1_bid_2 10 rfl rfl)
theorem dX1_bid_57 : decode cX1_bid 57 = .ok (.invokestatic 50, 3) := dk_184 0 50 (dk_at dksX1_bid_2 11 rfl rfl)
theorem dX1_bid_60 : decode cX1_bid 60 = .ok (.aload_n 0, 1) := dk_42 (dk_at dksX1_bid_2 14 rfl rfl)
theorem dX1_bid_61 : decode cX1_bid 61 = .ok (.getfield 33, 3) := dk_180 0 33 (dk_at dksX1_bid_2 15 rfl rfl)
theorem dX1_bid_64 : decode cX1_bid 64 = .ok (.iload_n 1, 1) := dk_27 (dk_at dksX1_bid_2 18 rfl rfl)
theorem dX1_bid_65 : decode cX1_bid 65 = .ok (.baload, 1) := dk_51 (dk_at dksX1_bid_2 19 rfl rfl)
theorem dX1_bid_66 : decode cX1_bid 66 = .ok (.ifCond .ne 34, 3) := dk_154 0 34 (dk_at dksX1_bid_2 20 rfl rfl)
theorem dX1_bid_69 : decode cX1_bid 69 = .ok (.aload_n 0, 1) := dk_42 (dk_at dksX1_bid_2 23 rfl rfl)
theorem dX1_bid_70 : decode cX1_bid 70 = .ok (.getfield 19, 3) := dk_180 0 19 (dk_at dksX1_bid_3 0 rfl rfl)
theorem dX1_bid_73 : decode cX1_bid 73 = .ok (.getfield 57, 3) := dk_180 0 57 (dk_at dksX1_bid_3 3 rfl rfl)
theorem dX1_bid_76 : decode cX1_bid 76 = .ok (.ifnonnull 24, 3) := dk_199 0 24 (dk_at dksX1_bid_3 6 rfl rfl)
theorem dX1_bid_79 : decode cX1_bid 79 = .ok (.aload_n 0, 1) := dk_42 (dk_at dksX1_bid_3 9 rfl rfl)
theorem dX1_bid_80 : decode cX1_bid 80 = .ok (.getfield 19, 3) := dk_180 0 19 (dk_at dksX1_bid_3 10 rfl rfl)
theorem dX1_bid_83 : decode cX1_bid 83 = .ok (.getfield 67, 3) := dk_180 0 67 (dk_at dksX1_bid_3 13 rfl rfl)
theorem dX1_bid_86 : decode cX1_bid 86 = .ok (.invokeinterface 70 1, 5) := by decide +kernel
theorem dX1_bid_91 : decode cX1_bid 91 = .ok (.bipush 40, 2) := dk_16 40 (dk_at dksX1_bid_3 21 rfl rfl)
theorem dX1_bid_93 : decode cX1_bid 93 = .ok (.if_icmp .ge 7, 3) := dk_162 0 7 (dk_at dksX1_bid_4 0 rfl rfl)
theorem dX1_bid_96 : decode cX1_bid 96 = .ok (.iconst 1, 1) := dk_4 (dk_at dksX1_bid_4 3 rfl rfl)
theorem dX1_bid_97 : decode cX1_bid 97 = .ok (.goto 4, 3) := dk_167 0 4 (dk_at dksX1_bid_4 4 rfl rfl)
theorem dX1_bid_100 : decode cX1_bid 100 = .ok (.iconst 0, 1) := dk_3 (dk_at dksX1_bid_4 7 rfl rfl)
theorem dX1_bid_101 : decode cX1_bid 101 = .ok (.invokestatic 54, 3) := dk_184 0 54 (dk_at dksX1_bid_4 8 rfl rfl)
theorem dX1_bid_104 : decode cX1_bid 104 = .ok (.aload_n 0, 1) := dk_42 (dk_at dksX1_bid_4 11 rfl rfl)
theorem dX1_bid_105 : decode cX1_bid 105 = .ok (.getfield 19, 3) := dk_180 0 19 (dk_at dksX1_bid_4 12 rfl rfl)
theorem dX1_bid_108 : decode cX1_bid 108 = .ok (.getfield 67, 3) := dk_180 0 67 (dk_at dksX1_bid_4 15 rfl rfl)
theorem dX1_bid_111 : decode cX1_bid 111 = .ok (.new 76, 3) := dk_187 0 76 (dk_at dksX1_bid_4 18 rfl rfl)
theorem dX1_bid_114 : decode cX1_bid 114 = .ok (.dup, 1) := dk_89 (dk_at dksX1_bid_4 21 rfl rfl)
theorem dX1_bid_115 : decode cX1_bid 115 = .ok (.iload_n 1, 1) := dk_27 (dk_at dksX1_bid_4 22 rfl rfl)
theorem dX1_bid_116 : decode cX1_bid 116 = .ok (.iload_n 2, 1) := dk_28 (dk_at dksX1_bid_4 23 rfl rfl)
theorem dX1_bid_117 : decode cX1_bid 117 = .ok (.iload_n 3, 1) := dk_29 (dk_at dksX1_bid_5 0 rfl rfl)
theorem dX1_bid_118 : decode cX1_bid 118 = .ok (.iload 4, 2) := dk_21 4 (dk_at dksX1_bid_5 1 rfl rfl)
theorem dX1_bid_120 : decode cX1_bid 120 = .ok (.iload 5, 2) := dk_21 5 (dk_at dksX1_bid_5 3 rfl rfl)
theorem dX1_bid_122 : decode cX1_bid 122 = .ok (.iload 6, 2) := dk_21 6 (dk_at dksX1_bid_5 5 rfl rfl)
theorem dX1_bid_124 : decode cX1_bid 124 = .ok (.invokespecial 78, 3) := dk_183 0 78 (dk_at dksX1_bid_5 7 rfl rfl)
theorem dX1_bid_127 : decode cX1_bid 127 = .ok (.invokeinterface 81 2, 5) := by decide +kernel
theorem dX1_bid_132 : decode cX1_bid 132 = .ok (.pop, 1) := dk_87 (dk_at dksX1_bid_5 15 rfl rfl)
theorem dX1_bid_133 : decode cX1_bid 133 = .ok (.aload_n 0, 1) := dk_42 (dk_at dksX1_bid_5 16 rfl rfl)
theorem dX1_bid_134 : decode cX1_bid 134 = .ok (.getfield 19, 3) := dk_180 0 19 (dk_at dksX1_bid_5 17 rfl rfl)
theorem dX1_bid_137 : decode cX1_bid 137 = .ok (.getfield 67, 3) := dk_180 0 67 (dk_at dksX1_bid_5 20 rfl rfl)
theorem dX1_bid_140 : decode cX1_bid 140 = .ok (.invokeinterface 70 1, 5) := by decide +kernel
theorem dX1_bid_145 : decode cX1_bid 145 = .ok (.iconst 1, 1) := dk_4 (dk_at dksX1_bid_6 5 rfl rfl)
theorem dX1_bid_146 : decode cX1_bid 146 = .ok (.isub, 1) := dk_100 (dk_at dksX1_bid_6 6 rfl rfl)
theorem dX1_bid_147 : decode cX1_bid 147 = .ok (.ireturn, 1) := dk_172 (dk_at dksX1_bid_6 7 rfl rfl)
abbrev cX1_isZone : ByteArray := prog_1_method_39_code
def yX1_isZone : MethodName := ⟨RX1, "isZone", "(I)Z"⟩
def dkwX1_isZone_0 : List UInt8 := [26, 3, 5, 184, 0, 46, 172]
abbrev dktX1_isZone_0 : List UInt8 := dkwX1_isZone_0 ++ []
theorem dksX1_isZone_0 : cX1_isZone.data.toList.drop 0 = dktX1_isZone_0 := by decide +kernel
theorem dX1_isZone_0 : decode cX1_isZone 0 = .ok (.iload_n 0, 1) := dk_26 (dk_at dksX1_isZone_0 0 rfl rfl)
theorem dX1_isZone_1 : decode cX1_isZone 1 = .ok (.iconst 0, 1) := dk_3 (dk_at dksX1_isZone_0 1 rfl rfl)
theorem dX1_isZone_2 : decode cX1_isZone 2 = .ok (.iconst 2, 1) := dk_5 (dk_at dksX1_isZone_0 2 rfl rfl)
theorem dX1_isZone_3 : decode cX1_isZone 3 = .ok (.invokestatic 46, 3) := dk_184 0 46 (dk_at dksX1_isZone_0 3 rfl rfl)
theorem dX1_isZone_6 : decode cX1_isZone 6 = .ok (.ireturn, 1) := dk_172 (dk_at dksX1_isZone_0 6 rfl rfl)
abbrev cX1_isHour : ByteArray := prog_1_method_40_code
def yX1_isHour : MethodName := ⟨RX1, "isHour", "(I)Z"⟩
def dkwX1_isHour_0 : List UInt8 := [26, 3, 6, 184, 0, 46, 172]
abbrev dktX1_isHour_0 : List UInt8 := dkwX1_isHour_0 ++ []
theorem dksX1_isHour_0 : cX1_isHour.data.toList.drop 0 = dktX1_isHour_0 := by decide +kernel
theorem dX1_isHour_0 : decode cX1_isHour 0 = .ok (.iload_n 0, 1) := dk_26 (dk_at dksX1_isHour_0 0 rfl rfl)
theorem dX1_isHour_1 : decode cX1_isHour 1 = .ok (.iconst 0, 1) := dk_3 (dk_at dksX1_isHour_0 1 rfl rfl)
theorem dX1_isHour_2 : decode cX1_isHour 2 = .ok (.iconst 3, 1) := dk_6 (dk_at dksX1_isHour_0 2 rfl rfl)
theorem dX1_isHour_3 : decode cX1_isHour 3 = .ok (.invokestatic 46, 3) := dk_184 0 46 (dk_at dksX1_isHour_0 3 rfl rfl)
theorem dX1_isHour_6 : decode cX1_isHour 6 = .ok (.ireturn, 1) := dk_172 (dk_at dksX1_isHour_0 6 rfl rfl)
abbrev cX1_block : ByteArray := prog_1_method_5_code
def yX1_block : MethodName := ⟨RX1, "block", "(IIIZII)I"⟩
def dkwX1_block_6 : List UInt8 := [180, 0, 19, 180, 0, 85, 185, 0, 70, 1, 0, 4, 100, 172]
abbrev dktX1_block_6 : List UInt8 := dkwX1_block_6 ++ []
def dkwX1_block_5 : List UInt8 := [187, 0, 88, 89, 27, 28, 29, 21, 4, 21, 5, 21, 6, 183, 0, 90, 185, 0, 81, 2, 0, 87, 42]
abbrev dktX1_block_5 : List UInt8 := dkwX1_block_5 ++ dktX1_block_6
def dkwX1_block_4 : List UInt8 := [185, 0, 70, 1, 0, 8, 162, 0, 7, 4, 167, 0, 4, 3, 184, 0, 54, 42, 180, 0, 19, 180, 0, 85]
abbrev dktX1_block_4 : List UInt8 := dkwX1_block_4 ++ dktX1_block_5
def dkwX1_block_3 : List UInt8 := [154, 0, 33, 42, 180, 0, 19, 180, 0, 57, 199, 0, 23, 42, 180, 0, 19, 180, 0, 85]
abbrev dktX1_block_3 : List UInt8 := dkwX1_block_3 ++ dktX1_block_4
def dkwX1_block_2 : List UInt8 := [16, 10, 184, 0, 46, 153, 0, 7, 4, 167, 0, 4, 3, 184, 0, 50, 42, 180, 0, 33, 27, 51]
abbrev dktX1_block_2 : List UInt8 := dkwX1_block_2 ++ dktX1_block_3
def dkwX1_block_1 : List UInt8 := [16, 15, 184, 0, 46, 153, 0, 30, 21, 5, 3, 17, 0, 200, 184, 0, 46, 153, 0, 18, 21, 6, 4]
abbrev dktX1_block_1 : List UInt8 := dkwX1_block_1 ++ dktX1_block_2
def dkwX1_block_0 : List UInt8 := [27, 184, 0, 37, 153, 0, 14, 28, 184, 0, 61, 153, 0, 7, 4, 167, 0, 4, 3, 184, 0, 41, 29, 4]
abbrev dktX1_block_0 : List UInt8 := dkwX1_block_0 ++ dktX1_block_1
theorem dksX1_block_0 : cX1_block.data.toList.drop 0 = dktX1_block_0 := by decide +kernel
theorem dksX1_block_1 : cX1_block.data.toList.drop 24 = dktX1_block_1 := dk_seg dksX1_block_0 24 rfl rfl
theorem dksX1_block_2 : cX1_block.data.toList.drop 47 = dktX1_block_2 := dk_seg dksX1_block_1 23 rfl rfl
theorem dksX1_block_3 : cX1_block.data.toList.drop 69 = dktX1_block_3 := dk_seg dksX1_block_2 22 rfl rfl
theorem dksX1_block_4 : cX1_block.data.toList.drop 89 = dktX1_block_4 := dk_seg dksX1_block_3 20 rfl rfl
theorem dksX1_block_5 : cX1_block.data.toList.drop 113 = dktX1_block_5 := dk_seg dksX1_block_4 24 rfl rfl
theorem dksX1_block_6 : cX1_block.data.toList.drop 136 = dktX1_block_6 := dk_seg dksX1_block_5 23 rfl rfl
theorem dX1_block_0 : decode cX1_block 0 = .ok (.iload_n 1, 1) := dk_27 (dk_at dksX1_block_0 0 rfl rfl)
theorem dX1_block_1 : decode cX1_block 1 = .ok (.invokestatic 37, 3) := dk_184 0 37 (dk_at dksX1_block_0 1 rfl rfl)
theorem dX1_block_4 : decode cX1_block 4 = .ok (.ifCond .eq 14, 3) := dk_153 0 14 (dk_at dksX1_block_0 4 rfl rfl)
theorem dX1_block_7 : decode cX1_block 7 = .ok (.iload_n 2, 1) := dk_28 (dk_at dksX1_block_0 7 rfl rfl)
theorem dX1_block_8 : decode cX1_block 8 = .ok (.invokestatic 61, 3) := dk_184 0 61 (dk_at dksX1_block_0 8 rfl rfl)
theorem dX1_block_11 : decode cX1_block 11 = .ok (.ifCond .eq 7, 3) := dk_153 0 7 (dk_at dksX1_block_0 11 rfl rfl)
theorem dX1_block_14 : decode cX1_block 14 = .ok (.iconst 1, 1) := dk_4 (dk_at dksX1_block_0 14 rfl rfl)
theorem dX1_block_15 : decode cX1_block 15 = .ok (.goto 4, 3) := dk_167 0 4 (dk_at dksX1_block_0 15 rfl rfl)
theorem dX1_block_18 : decode cX1_block 18 = .ok (.iconst 0, 1) := dk_3 (dk_at dksX1_block_0 18 rfl rfl)
theorem dX1_block_19 : decode cX1_block 19 = .ok (.invokestatic 41, 3) := dk_184 0 41 (dk_at dksX1_block_0 19 rfl rfl)
theorem dX1_block_22 : decode cX1_block 22 = .ok (.iload_n 3, 1) := dk_29 (dk_at dksX1_block_0 22 rfl rfl)
theorem dX1_block_23 : decode cX1_block 23 = .ok (.iconst 1, 1) := dk_4 (dk_at dksX1_block_0 23 rfl rfl)
theorem dX1_block_24 : decode cX1_block 24 = .ok (.bipush 15, 2) := dk_16 15 (dk_at dksX1_block_1 0 rfl rfl)
theorem dX1_block_26 : decode cX1_block 26 = .ok (.invokestatic 46, 3) := dk_184 0 46 (dk_at dksX1_block_1 2 rfl rfl)
theorem dX1_block_29 : decode cX1_block 29 = .ok (.ifCond .eq 30, 3) := dk_153 0 30 (dk_at dksX1_block_1 5 rfl rfl)
theorem dX1_block_32 : decode cX1_block 32 = .ok (.iload 5, 2) := dk_21 5 (dk_at dksX1_block_1 8 rfl rfl)
theorem dX1_block_34 : decode cX1_block 34 = .ok (.iconst 0, 1) := dk_3 (dk_at dksX1_block_1 10 rfl rfl)
theorem dX1_block_35 : decode cX1_block 35 = .ok (.sipush 200, 3) := dk_17 0 200 (dk_at dksX1_block_1 11 rfl rfl)
theorem dX1_block_38 : decode cX1_block 38 = .ok (.invokestatic 46, 3) := dk_184 0 46 (dk_at dksX1_block_1 14 rfl rfl)
theorem dX1_block_41 : decode cX1_block 41 = .ok (.ifCond .eq 18, 3) := dk_153 0 18 (dk_at dksX1_block_1 17 rfl rfl)
theorem dX1_block_44 : decode cX1_block 44 = .ok (.iload 6, 2) := dk_21 6 (dk_at dksX1_block_1 20 rfl rfl)
theorem dX1_block_46 : decode cX1_block 46 = .ok (.iconst 1, 1) := dk_4 (dk_at dksX1_block_1 22 rfl rfl)
theorem dX1_block_47 : decode cX1_block 47 = .ok (.bipush 10, 2) := dk_16 10 (dk_at dksX1_block_2 0 rfl rfl)
theorem dX1_block_49 : decode cX1_block 49 = .ok (.invokestatic 46, 3) := dk_184 0 46 (dk_at dksX1_block_2 2 rfl rfl)
theorem dX1_block_52 : decode cX1_block 52 = .ok (.ifCond .eq 7, 3) := dk_153 0 7 (dk_at dksX1_block_2 5 rfl rfl)
theorem dX1_block_55 : decode cX1_block 55 = .ok (.iconst 1, 1) := dk_4 (dk_at dksX1_block_2 8 rfl rfl)
theorem dX1_block_56 : decode cX1_block 56 = .ok (.goto 4, 3) := dk_167 0 4 (dk_at dksX1_block_2 9 rfl rfl)
theorem dX1_block_59 : decode cX1_block 59 = .ok (.iconst 0, 1) := dk_3 (dk_at dksX1_block_2 12 rfl rfl)
theorem dX1_block_60 : decode cX1_block 60 = .ok (.invokestatic 50, 3) := dk_184 0 50 (dk_at dksX1_block_2 13 rfl rfl)
theorem dX1_block_63 : decode cX1_block 63 = .ok (.aload_n 0, 1) := dk_42 (dk_at dksX1_block_2 16 rfl rfl)
theorem dX1_block_64 : decode cX1_block 64 = .ok (.getfield 33, 3) := dk_180 0 33 (dk_at dksX1_block_2 17 rfl rfl)
theorem dX1_block_67 : decode cX1_block 67 = .ok (.iload_n 1, 1) := dk_27 (dk_at dksX1_block_2 20 rfl rfl)
theorem dX1_block_68 : decode cX1_block 68 = .ok (.baload, 1) := dk_51 (dk_at dksX1_block_2 21 rfl rfl)
theorem dX1_block_69 : decode cX1_block 69 = .ok (.ifCond .ne 33, 3) := dk_154 0 33 (dk_at dksX1_block_3 0 rfl rfl)
theorem dX1_block_72 : decode cX1_block 72 = .ok (.aload_n 0, 1) := dk_42 (dk_at dksX1_block_3 3 rfl rfl)
theorem dX1_block_73 : decode cX1_block 73 = .ok (.getfield 19, 3) := dk_180 0 19 (dk_at dksX1_block_3 4 rfl rfl)
theorem dX1_block_76 : decode cX1_block 76 = .ok (.getfield 57, 3) := dk_180 0 57 (dk_at dksX1_block_3 7 rfl rfl)
theorem dX1_block_79 : decode cX1_block 79 = .ok (.ifnonnull 23, 3) := dk_199 0 23 (dk_at dksX1_block_3 10 rfl rfl)
theorem dX1_block_82 : decode cX1_block 82 = .ok (.aload_n 0, 1) := dk_42 (dk_at dksX1_block_3 13 rfl rfl)
theorem dX1_block_83 : decode cX1_block 83 = .ok (.getfield 19, 3) := dk_180 0 19 (dk_at dksX1_block_3 14 rfl rfl)
theorem dX1_block_86 : decode cX1_block 86 = .ok (.getfield 85, 3) := dk_180 0 85 (dk_at dksX1_block_3 17 rfl rfl)
theorem dX1_block_89 : decode cX1_block 89 = .ok (.invokeinterface 70 1, 5) := by decide +kernel
theorem dX1_block_94 : decode cX1_block 94 = .ok (.iconst 5, 1) := dk_8 (dk_at dksX1_block_4 5 rfl rfl)
theorem dX1_block_95 : decode cX1_block 95 = .ok (.if_icmp .ge 7, 3) := dk_162 0 7 (dk_at dksX1_block_4 6 rfl rfl)
theorem dX1_block_98 : decode cX1_block 98 = .ok (.iconst 1, 1) := dk_4 (dk_at dksX1_block_4 9 rfl rfl)
theorem dX1_block_99 : decode cX1_block 99 = .ok (.goto 4, 3) := dk_167 0 4 (dk_at dksX1_block_4 10 rfl rfl)
theorem dX1_block_102 : decode cX1_block 102 = .ok (.iconst 0, 1) := dk_3 (dk_at dksX1_block_4 13 rfl rfl)
theorem dX1_block_103 : decode cX1_block 103 = .ok (.invokestatic 54, 3) := dk_184 0 54 (dk_at dksX1_block_4 14 rfl rfl)
theorem dX1_block_106 : decode cX1_block 106 = .ok (.aload_n 0, 1) := dk_42 (dk_at dksX1_block_4 17 rfl rfl)
theorem dX1_block_107 : decode cX1_block 107 = .ok (.getfield 19, 3) := dk_180 0 19 (dk_at dksX1_block_4 18 rfl rfl)
theorem dX1_block_110 : decode cX1_block 110 = .ok (.getfield 85, 3) := dk_180 0 85 (dk_at dksX1_block_4 21 rfl rfl)
theorem dX1_block_113 : decode cX1_block 113 = .ok (.new 88, 3) := dk_187 0 88 (dk_at dksX1_block_5 0 rfl rfl)
theorem dX1_block_116 : decode cX1_block 116 = .ok (.dup, 1) := dk_89 (dk_at dksX1_block_5 3 rfl rfl)
theorem dX1_block_117 : decode cX1_block 117 = .ok (.iload_n 1, 1) := dk_27 (dk_at dksX1_block_5 4 rfl rfl)
theorem dX1_block_118 : decode cX1_block 118 = .ok (.iload_n 2, 1) := dk_28 (dk_at dksX1_block_5 5 rfl rfl)
theorem dX1_block_119 : decode cX1_block 119 = .ok (.iload_n 3, 1) := dk_29 (dk_at dksX1_block_5 6 rfl rfl)
theorem dX1_block_120 : decode cX1_block 120 = .ok (.iload 4, 2) := dk_21 4 (dk_at dksX1_block_5 7 rfl rfl)
theorem dX1_block_122 : decode cX1_block 122 = .ok (.iload 5, 2) := dk_21 5 (dk_at dksX1_block_5 9 rfl rfl)
theorem dX1_block_124 : decode cX1_block 124 = .ok (.iload 6, 2) := dk_21 6 (dk_at dksX1_block_5 11 rfl rfl)
theorem dX1_block_126 : decode cX1_block 126 = .ok (.invokespecial 90, 3) := dk_183 0 90 (dk_at dksX1_block_5 13 rfl rfl)
theorem dX1_block_129 : decode cX1_block 129 = .ok (.invokeinterface 81 2, 5) := by decide +kernel
theorem dX1_block_134 : decode cX1_block 134 = .ok (.pop, 1) := dk_87 (dk_at dksX1_block_5 21 rfl rfl)
theorem dX1_block_135 : decode cX1_block 135 = .ok (.aload_n 0, 1) := dk_42 (dk_at dksX1_block_5 22 rfl rfl)
theorem dX1_block_136 : decode cX1_block 136 = .ok (.getfield 19, 3) := dk_180 0 19 (dk_at dksX1_block_6 0 rfl rfl)
theorem dX1_block_139 : decode cX1_block 139 = .ok (.getfield 85, 3) := dk_180 0 85 (dk_at dksX1_block_6 3 rfl rfl)
theorem dX1_block_142 : decode cX1_block 142 = .ok (.invokeinterface 70 1, 5) := by decide +kernel
theorem dX1_block_147 : decode cX1_block 147 = .ok (.iconst 1, 1) := dk_4 (dk_at dksX1_block_6 11 rfl rfl)
theorem dX1_block_148 : decode cX1_block 148 = .ok (.isub, 1) := dk_100 (dk_at dksX1_block_6 12 rfl rfl)
theorem dX1_block_149 : decode cX1_block 149 = .ok (.ireturn, 1) := dk_172 (dk_at dksX1_block_6 13 rfl rfl)
abbrev cX1_link : ByteArray := prog_1_method_6_code
def yX1_link : MethodName := ⟨RX1, "link", "(III)V"⟩
def dkwX1_link_4 : List UInt8 := [180, 0, 85, 27, 185, 0, 91, 2, 0, 192, 0, 88, 29, 181, 0, 99, 177]
abbrev dktX1_link_4 : List UInt8 := dkwX1_link_4 ++ []
def dkwX1_link_3 : List UInt8 := [180, 0, 19, 180, 0, 85, 27, 185, 0, 91, 2, 0, 192, 0, 88, 28, 181, 0, 95, 42, 180, 0, 19]
abbrev dktX1_link_3 : List UInt8 := dkwX1_link_3 ++ dktX1_link_4
def dkwX1_link_2 : List UInt8 := [184, 0, 50, 42, 180, 0, 19, 180, 0, 57, 199, 0, 7, 4, 167, 0, 4, 3, 184, 0, 54, 42]
abbrev dktX1_link_2 : List UInt8 := dkwX1_link_2 ++ dktX1_link_3
def dkwX1_link_1 : List UInt8 := [27, 4, 100, 184, 0, 46, 153, 0, 16, 29, 2, 5, 184, 0, 46, 153, 0, 7, 4, 167, 0, 4, 3]
abbrev dktX1_link_1 : List UInt8 := dkwX1_link_1 ++ dktX1_link_2
def dkwX1_link_0 : List UInt8 := [27, 3, 42, 180, 0, 19, 180, 0, 85, 185, 0, 70, 1, 0, 4, 100, 184, 0, 46, 184, 0, 41, 28, 2]
abbrev dktX1_link_0 : List UInt8 := dkwX1_link_0 ++ dktX1_link_1
theorem dksX1_link_0 : cX1_link.data.toList.drop 0 = dktX1_link_0 := by decide +kernel
theorem dksX1_link_1 : cX1_link.data.toList.drop 24 = dktX1_link_1 := dk_seg dksX1_link_0 24 rfl rfl
theorem dksX1_link_2 : cX1_link.data.toList.drop 47 = dktX1_link_2 := dk_seg dksX1_link_1 23 rfl rfl
theorem dksX1_link_3 : cX1_link.data.toList.drop 69 = dktX1_link_3 := dk_seg dksX1_link_2 22 rfl rfl
theorem dksX1_link_4 : cX1_link.data.toList.drop 92 = dktX1_link_4 := dk_seg dksX1_link_3 23 rfl rfl
theorem dX1_link_0 : decode cX1_link 0 = .ok (.iload_n 1, 1) := dk_27 (dk_at dksX1_link_0 0 rfl rfl)
theorem dX1_link_1 : decode cX1_link 1 = .ok (.iconst 0, 1) := dk_3 (dk_at dksX1_link_0 1 rfl rfl)
theorem dX1_link_2 : decode cX1_link 2 = .ok (.aload_n 0, 1) := dk_42 (dk_at dksX1_link_0 2 rfl rfl)
theorem dX1_link_3 : decode cX1_link 3 = .ok (.getfield 19, 3) := dk_180 0 19 (dk_at dksX1_link_0 3 rfl rfl)
theorem dX1_link_6 : decode cX1_link 6 = .ok (.getfield 85, 3) := dk_180 0 85 (dk_at dksX1_link_0 6 rfl rfl)
theorem dX1_link_9 : decode cX1_link 9 = .ok (.invokeinterface 70 1, 5) := by decide +kernel
theorem dX1_link_14 : decode cX1_link 14 = .ok (.iconst 1, 1) := dk_4 (dk_at dksX1_link_0 14 rfl rfl)
theorem dX1_link_15 : decode cX1_link 15 = .ok (.isub, 1) := dk_100 (dk_at dksX1_link_0 15 rfl rfl)
theorem dX1_link_16 : decode cX1_link 16 = .ok (.invokestatic 46, 3) := dk_184 0 46 (dk_at dksX1_link_0 16 rfl rfl)
theorem dX1_link_19 : decode cX1_link 19 = .ok (.invokestatic 41, 3) := dk_184 0 41 (dk_at dksX1_link_0 19 rfl rfl)
theorem dX1_link_22 : decode cX1_link 22 = .ok (.iload_n 2, 1) := dk_28 (dk_at dksX1_link_0 22 rfl rfl)
theorem dX1_link_23 : decode cX1_link 23 = .ok (.iconst (-1), 1) := dk_2 (dk_at dksX1_link_0 23 rfl rfl)
theorem dX1_link_24 : decode cX1_link 24 = .ok (.iload_n 1, 1) := dk_27 (dk_at dksX1_link_1 0 rfl rfl)
theorem dX1_link_25 : decode cX1_link 25 = .ok (.iconst 1, 1) := dk_4 (dk_at dksX1_link_1 1 rfl rfl)
theorem dX1_link_26 : decode cX1_link 26 = .ok (.isub, 1) := dk_100 (dk_at dksX1_link_1 2 rfl rfl)
theorem dX1_link_27 : decode cX1_link 27 = .ok (.invokestatic 46, 3) := dk_184 0 46 (dk_at dksX1_link_1 3 rfl rfl)
theorem dX1_link_30 : decode cX1_link 30 = .ok (.ifCond .eq 16, 3) := dk_153 0 16 (dk_at dksX1_link_1 6 rfl rfl)
theorem dX1_link_33 : decode cX1_link 33 = .ok (.iload_n 3, 1) := dk_29 (dk_at dksX1_link_1 9 rfl rfl)
theorem dX1_link_34 : decode cX1_link 34 = .ok (.iconst (-1), 1) := dk_2 (dk_at dksX1_link_1 10 rfl rfl)
theorem dX1_link_35 : decode cX1_link 35 = .ok (.iconst 2, 1) := dk_5 (dk_at dksX1_link_1 11 rfl rfl)
theorem dX1_link_36 : decode cX1_link 36 = .ok (.invokestatic 46, 3) := dk_184 0 46 (dk_at dksX1_link_1 12 rfl rfl)
theorem dX1_link_39 : decode cX1_link 39 = .ok (.ifCond .eq 7, 3) := dk_153 0 7 (dk_at dksX1_link_1 15 rfl rfl)
theorem dX1_link_42 : decode cX1_link 42 = .ok (.iconst 1, 1) := dk_4 (dk_at dksX1_link_1 18 rfl rfl)
theorem dX1_link_43 : decode cX1_link 43 = .ok (.goto 4, 3) := dk_167 0 4 (dk_at dksX1_link_1 19 rfl rfl)
theorem dX1_link_46 : decode cX1_link 46 = .ok (.iconst 0, 1) := dk_3 (dk_at dksX1_link_1 22 rfl rfl)
theorem dX1_link_47 : decode cX1_link 47 = .ok (.invokestatic 50, 3) := dk_184 0 50 (dk_at dksX1_link_2 0 rfl rfl)
theorem dX1_link_50 : decode cX1_link 50 = .ok (.aload_n 0, 1) := dk_42 (dk_at dksX1_link_2 3 rfl rfl)
theorem dX1_link_51 : decode cX1_link 51 = .ok (.getfield 19, 3) := dk_180 0 19 (dk_at dksX1_link_2 4 rfl rfl)
theorem dX1_link_54 : decode cX1_link 54 = .ok (.getfield 57, 3) := dk_180 0 57 (dk_at dksX1_link_2 7 rfl rfl)
theorem dX1_link_57 : decode cX1_link 57 = .ok (.ifnonnull 7, 3) := dk_199 0 7 (dk_at dksX1_link_2 10 rfl rfl)
theorem dX1_link_60 : decode cX1_link 60 = .ok (.iconst 1, 1) := dk_4 (dk_at dksX1_link_2 13 rfl rfl)
theorem dX1_link_61 : decode cX1_link 61 = .ok (.goto 4, 3) := dk_167 0 4 (dk_at dksX1_link_2 14 rfl rfl)
theorem dX1_link_64 : decode cX1_link 64 = .ok (.iconst 0, 1) := dk_3 (dk_at dksX1_link_2 17 rfl rfl)
theorem dX1_link_65 : decode cX1_link 65 = .ok (.invokestatic 54, 3) := dk_184 0 54 (dk_at dksX1_link_2 18 rfl rfl)
theorem dX1_link_68 : decode cX1_link 68 = .ok (.aload_n 0, 1) := dk_42 (dk_at dksX1_link_2 21 rfl rfl)
theorem dX1_link_69 : decode cX1_link 69 = .ok (.getfield 19, 3) := dk_180 0 19 (dk_at dksX1_link_3 0 rfl rfl)
theorem dX1_link_72 : decode cX1_link 72 = .ok (.getfield 85, 3) := dk_180 0 85 (dk_at dksX1_link_3 3 rfl rfl)
theorem dX1_link_75 : decode cX1_link 75 = .ok (.iload_n 1, 1) := dk_27 (dk_at dksX1_link_3 6 rfl rfl)
theorem dX1_link_76 : decode cX1_link 76 = .ok (.invokeinterface 91 2, 5) := by decide +kernel
theorem dX1_link_81 : decode cX1_link 81 = .ok (.checkcast 88, 3) := dk_192 0 88 (dk_at dksX1_link_3 12 rfl rfl)
theorem dX1_link_84 : decode cX1_link 84 = .ok (.iload_n 2, 1) := dk_28 (dk_at dksX1_link_3 15 rfl rfl)
theorem dX1_link_85 : decode cX1_link 85 = .ok (.putfield 95, 3) := dk_181 0 95 (dk_at dksX1_link_3 16 rfl rfl)
theorem dX1_link_88 : decode cX1_link 88 = .ok (.aload_n 0, 1) := dk_42 (dk_at dksX1_link_3 19 rfl rfl)
theorem dX1_link_89 : decode cX1_link 89 = .ok (.getfield 19, 3) := dk_180 0 19 (dk_at dksX1_link_3 20 rfl rfl)
theorem dX1_link_92 : decode cX1_link 92 = .ok (.getfield 85, 3) := dk_180 0 85 (dk_at dksX1_link_4 0 rfl rfl)
theorem dX1_link_95 : decode cX1_link 95 = .ok (.iload_n 1, 1) := dk_27 (dk_at dksX1_link_4 3 rfl rfl)
theorem dX1_link_96 : decode cX1_link 96 = .ok (.invokeinterface 91 2, 5) := by decide +kernel
theorem dX1_link_101 : decode cX1_link 101 = .ok (.checkcast 88, 3) := dk_192 0 88 (dk_at dksX1_link_4 9 rfl rfl)
theorem dX1_link_104 : decode cX1_link 104 = .ok (.iload_n 3, 1) := dk_29 (dk_at dksX1_link_4 12 rfl rfl)
theorem dX1_link_105 : decode cX1_link 105 = .ok (.putfield 99, 3) := dk_181 0 99 (dk_at dksX1_link_4 13 rfl rfl)
theorem dX1_link_108 : decode cX1_link 108 = .ok (.return_, 1) := dk_177 (dk_at dksX1_link_4 16 rfl rfl)
abbrev cX1_ask : ByteArray := prog_1_method_7_code
def yX1_ask : MethodName := ⟨RX1, "ask", "(IIIII)I"⟩
def dkwX1_ask_6 : List UInt8 := [180, 0, 19, 180, 0, 102, 185, 0, 70, 1, 0, 4, 100, 172]
abbrev dktX1_ask_6 : List UInt8 := dkwX1_ask_6 ++ []
def dkwX1_ask_5 : List UInt8 := [180, 0, 102, 187, 0, 105, 89, 27, 28, 29, 21, 4, 21, 5, 183, 0, 107, 185, 0, 81, 2, 0, 87, 42]
abbrev dktX1_ask_5 : List UInt8 := dkwX1_ask_5 ++ dktX1_ask_6
def dkwX1_ask_4 : List UInt8 := [185, 0, 70, 1, 0, 16, 20, 162, 0, 7, 4, 167, 0, 4, 3, 184, 0, 54, 42, 180, 0, 19]
abbrev dktX1_ask_4 : List UInt8 := dkwX1_ask_4 ++ dktX1_ask_5
def dkwX1_ask_3 : List UInt8 := [27, 51, 154, 0, 34, 42, 180, 0, 19, 180, 0, 57, 199, 0, 24, 42, 180, 0, 19, 180, 0, 102]
abbrev dktX1_ask_3 : List UInt8 := dkwX1_ask_3 ++ dktX1_ask_4
def dkwX1_ask_2 : List UInt8 := [21, 5, 3, 17, 1, 244, 184, 0, 46, 153, 0, 7, 4, 167, 0, 4, 3, 184, 0, 50, 42, 180, 0, 33]
abbrev dktX1_ask_2 : List UInt8 := dkwX1_ask_2 ++ dktX1_ask_3
def dkwX1_ask_1 : List UInt8 := [167, 0, 4, 3, 184, 0, 41, 28, 29, 159, 0, 30, 21, 4, 4, 16, 10, 184, 0, 46, 153, 0, 19]
abbrev dktX1_ask_1 : List UInt8 := dkwX1_ask_1 ++ dktX1_ask_2
def dkwX1_ask_0 : List UInt8 := [27, 184, 0, 37, 153, 0, 21, 28, 184, 0, 61, 153, 0, 14, 29, 184, 0, 61, 153, 0, 7, 4]
abbrev dktX1_ask_0 : List UInt8 := dkwX1_ask_0 ++ dktX1_ask_1
theorem dksX1_ask_0 : cX1_ask.data.toList.drop 0 = dktX1_ask_0 := by decide +kernel
theorem dksX1_ask_1 : cX1_ask.data.toList.drop 22 = dktX1_ask_1 := dk_seg dksX1_ask_0 22 rfl rfl
theorem dksX1_ask_2 : cX1_ask.data.toList.drop 45 = dktX1_ask_2 := dk_seg dksX1_ask_1 23 rfl rfl
theorem dksX1_ask_3 : cX1_ask.data.toList.drop 69 = dktX1_ask_3 := dk_seg dksX1_ask_2 24 rfl rfl
theorem dksX1_ask_4 : cX1_ask.data.toList.drop 91 = dktX1_ask_4 := dk_seg dksX1_ask_3 22 rfl rfl
theorem dksX1_ask_5 : cX1_ask.data.toList.drop 113 = dktX1_ask_5 := dk_seg dksX1_ask_4 22 rfl rfl
theorem dksX1_ask_6 : cX1_ask.data.toList.drop 137 = dktX1_ask_6 := dk_seg dksX1_ask_5 24 rfl rfl
theorem dX1_ask_0 : decode cX1_ask 0 = .ok (.iload_n 1, 1) := dk_27 (dk_at dksX1_ask_0 0 rfl rfl)
theorem dX1_ask_1 : decode cX1_ask 1 = .ok (.invokestatic 37, 3) := dk_184 0 37 (dk_at dksX1_ask_0 1 rfl rfl)
theorem dX1_ask_4 : decode cX1_ask 4 = .ok (.ifCond .eq 21, 3) := dk_153 0 21 (dk_at dksX1_ask_0 4 rfl rfl)
theorem dX1_ask_7 : decode cX1_ask 7 = .ok (.iload_n 2, 1) := dk_28 (dk_at dksX1_ask_0 7 rfl rfl)
theorem dX1_ask_8 : decode cX1_ask 8 = .ok (.invokestatic 61, 3) := dk_184 0 61 (dk_at dksX1_ask_0 8 rfl rfl)
theorem dX1_ask_11 : decode cX1_ask 11 = .ok (.ifCond .eq 14, 3) := dk_153 0 14 (dk_at dksX1_ask_0 11 rfl rfl)
theorem dX1_ask_14 : decode cX1_ask 14 = .ok (.iload_n 3, 1) := dk_29 (dk_at dksX1_ask_0 14 rfl rfl)
theorem dX1_ask_15 : decode cX1_ask 15 = .ok (.invokestatic 61, 3) := dk_184 0 61 (dk_at dksX1_ask_0 15 rfl rfl)
theorem dX1_ask_18 : decode cX1_ask 18 = .ok (.ifCond .eq 7, 3) := dk_153 0 7 (dk_at dksX1_ask_0 18 rfl rfl)
theorem dX1_ask_21 : decode cX1_ask 21 = .ok (.iconst 1, 1) := dk_4 (dk_at dksX1_ask_0 21 rfl rfl)
theorem dX1_ask_22 : decode cX1_ask 22 = .ok (.goto 4, 3) := dk_167 0 4 (dk_at dksX1_ask_1 0 rfl rfl)
theorem dX1_ask_25 : decode cX1_ask 25 = .ok (.iconst 0, 1) := dk_3 (dk_at dksX1_ask_1 3 rfl rfl)
theorem dX1_ask_26 : decode cX1_ask 26 = .ok (.invokestatic 41, 3) := dk_184 0 41 (dk_at dksX1_ask_1 4 rfl rfl)
theorem dX1_ask_29 : decode cX1_ask 29 = .ok (.iload_n 2, 1) := dk_28 (dk_at dksX1_ask_1 7 rfl rfl)
theorem dX1_ask_30 : decode cX1_ask 30 = .ok (.iload_n 3, 1) := dk_29 (dk_at dksX1_ask_1 8 rfl rfl)
theorem dX1_ask_31 : decode cX1_ask 31 = .ok (.if_icmp .eq 30, 3) := dk_159 0 30 (dk_at dksX1_ask_1 9 rfl rfl)
theorem dX1_ask_34 : decode cX1_ask 34 = .ok (.iload 4, 2) := dk_21 4 (dk_at dksX1_ask_1 12 rfl rfl)
theorem dX1_ask_36 : decode cX1_ask 36 = .ok (.iconst 1, 1) := dk_4 (dk_at dksX1_ask_1 14 rfl rfl)
theorem dX1_ask_37 : decode cX1_ask 37 = .ok (.bipush 10, 2) := dk_16 10 (dk_at dksX1_ask_1 15 rfl rfl)
theorem dX1_ask_39 : decode cX1_ask 39 = .ok (.invokestatic 46, 3) := dk_184 0 46 (dk_at dksX1_ask_1 17 rfl rfl)
theorem dX1_ask_42 : decode cX1_ask 42 = .ok (.ifCond .eq 19, 3) := dk_153 0 19 (dk_at dksX1_ask_1 20 rfl rfl)
theorem dX1_ask_45 : decode cX1_ask 45 = .ok (.iload 5, 2) := dk_21 5 (dk_at dksX1_ask_2 0 rfl rfl)
theorem dX1_ask_47 : decode cX1_ask 47 = .ok (.iconst 0, 1) := dk_3 (dk_at dksX1_ask_2 2 rfl rfl)
theorem dX1_ask_48 : decode cX1_ask 48 = .ok (.sipush 500, 3) := dk_17 1 244 (dk_at dksX1_ask_2 3 rfl rfl)
theorem dX1_ask_51 : decode cX1_ask 51 = .ok (.invokestatic 46, 3) := dk_184 0 46 (dk_at dksX1_ask_2 6 rfl rfl)
theorem dX1_ask_54 : decode cX1_ask 54 = .ok (.ifCond .eq 7, 3) := dk_153 0 7 (dk_at dksX1_ask_2 9 rfl rfl)
theorem dX1_ask_57 : decode cX1_ask 57 = .ok (.iconst 1, 1) := dk_4 (dk_at dksX1_ask_2 12 rfl rfl)
theorem dX1_ask_58 : decode cX1_ask 58 = .ok (.goto 4, 3) := dk_167 0 4 (dk_at dksX1_ask_2 13 rfl rfl)
theorem dX1_ask_61 : decode cX1_ask 61 = .ok (.iconst 0, 1) := dk_3 (dk_at dksX1_ask_2 16 rfl rfl)
theorem dX1_ask_62 : decode cX1_ask 62 = .ok (.invokestatic 50, 3) := dk_184 0 50 (dk_at dksX1_ask_2 17 rfl rfl)
theorem dX1_ask_65 : decode cX1_ask 65 = .ok (.aload_n 0, 1) := dk_42 (dk_at dksX1_ask_2 20 rfl rfl)
theorem dX1_ask_66 : decode cX1_ask 66 = .ok (.getfield 33, 3) := dk_180 0 33 (dk_at dksX1_ask_2 21 rfl rfl)
theorem dX1_ask_69 : decode cX1_ask 69 = .ok (.iload_n 1, 1) := dk_27 (dk_at dksX1_ask_3 0 rfl rfl)
theorem dX1_ask_70 : decode cX1_ask 70 = .ok (.baload, 1) := dk_51 (dk_at dksX1_ask_3 1 rfl rfl)
theorem dX1_ask_71 : decode cX1_ask 71 = .ok (.ifCond .ne 34, 3) := dk_154 0 34 (dk_at dksX1_ask_3 2 rfl rfl)
theorem dX1_ask_74 : decode cX1_ask 74 = .ok (.aload_n 0, 1) := dk_42 (dk_at dksX1_ask_3 5 rfl rfl)
theorem dX1_ask_75 : decode cX1_ask 75 = .ok (.getfield 19, 3) := dk_180 0 19 (dk_at dksX1_ask_3 6 rfl rfl)
theorem dX1_ask_78 : decode cX1_ask 78 = .ok (.getfield 57, 3) := dk_180 0 57 (dk_at dksX1_ask_3 9 rfl rfl)
theorem dX1_ask_81 : decode cX1_ask 81 = .ok (.ifnonnull 24, 3) := dk_199 0 24 (dk_at dksX1_ask_3 12 rfl rfl)
theorem dX1_ask_84 : decode cX1_ask 84 = .ok (.aload_n 0, 1) := dk_42 (dk_at dksX1_ask_3 15 rfl rfl)
theorem dX1_ask_85 : decode cX1_ask 85 = .ok (.getfield 19, 3) := dk_180 0 19 (dk_at dksX1_ask_3 16 rfl rfl)
theorem dX1_ask_88 : decode cX1_ask 88 = .ok (.getfield 102, 3) := dk_180 0 102 (dk_at dksX1_ask_3 19 rfl rfl)
theorem dX1_ask_91 : decode cX1_ask 91 = .ok (.invokeinterface 70 1, 5) := by decide +kernel
theorem dX1_ask_96 : decode cX1_ask 96 = .ok (.bipush 20, 2) := dk_16 20 (dk_at dksX1_ask_4 5 rfl rfl)
theorem dX1_ask_98 : decode cX1_ask 98 = .ok (.if_icmp .ge 7, 3) := dk_162 0 7 (dk_at dksX1_ask_4 7 rfl rfl)
theorem dX1_ask_101 : decode cX1_ask 101 = .ok (.iconst 1, 1) := dk_4 (dk_at dksX1_ask_4 10 rfl rfl)
theorem dX1_ask_102 : decode cX1_ask 102 = .ok (.goto 4, 3) := dk_167 0 4 (dk_at dksX1_ask_4 11 rfl rfl)
theorem dX1_ask_105 : decode cX1_ask 105 = .ok (.iconst 0, 1) := dk_3 (dk_at dksX1_ask_4 14 rfl rfl)
theorem dX1_ask_106 : decode cX1_ask 106 = .ok (.invokestatic 54, 3) := dk_184 0 54 (dk_at dksX1_ask_4 15 rfl rfl)
theorem dX1_ask_109 : decode cX1_ask 109 = .ok (.aload_n 0, 1) := dk_42 (dk_at dksX1_ask_4 18 rfl rfl)
theorem dX1_ask_110 : decode cX1_ask 110 = .ok (.getfield 19, 3) := dk_180 0 19 (dk_at dksX1_ask_4 19 rfl rfl)
theorem dX1_ask_113 : decode cX1_ask 113 = .ok (.getfield 102, 3) := dk_180 0 102 (dk_at dksX1_ask_5 0 rfl rfl)
theorem dX1_ask_116 : decode cX1_ask 116 = .ok (.new 105, 3) := dk_187 0 105 (dk_at dksX1_ask_5 3 rfl rfl)
theorem dX1_ask_119 : decode cX1_ask 119 = .ok (.dup, 1) := dk_89 (dk_at dksX1_ask_5 6 rfl rfl)
theorem dX1_ask_120 : decode cX1_ask 120 = .ok (.iload_n 1, 1) := dk_27 (dk_at dksX1_ask_5 7 rfl rfl)
theorem dX1_ask_121 : decode cX1_ask 121 = .ok (.iload_n 2, 1) := dk_28 (dk_at dksX1_ask_5 8 rfl rfl)
theorem dX1_ask_122 : decode cX1_ask 122 = .ok (.iload_n 3, 1) := dk_29 (dk_at dksX1_ask_5 9 rfl rfl)
theorem dX1_ask_123 : decode cX1_ask 123 = .ok (.iload 4, 2) := dk_21 4 (dk_at dksX1_ask_5 10 rfl rfl)
theorem dX1_ask_125 : decode cX1_ask 125 = .ok (.iload 5, 2) := dk_21 5 (dk_at dksX1_ask_5 12 rfl rfl)
theorem dX1_ask_127 : decode cX1_ask 127 = .ok (.invokespecial 107, 3) := dk_183 0 107 (dk_at dksX1_ask_5 14 rfl rfl)
theorem dX1_ask_130 : decode cX1_ask 130 = .ok (.invokeinterface 81 2, 5) := by decide +kernel
theorem dX1_ask_135 : decode cX1_ask 135 = .ok (.pop, 1) := dk_87 (dk_at dksX1_ask_5 22 rfl rfl)
theorem dX1_ask_136 : decode cX1_ask 136 = .ok (.aload_n 0, 1) := dk_42 (dk_at dksX1_ask_5 23 rfl rfl)
theorem dX1_ask_137 : decode cX1_ask 137 = .ok (.getfield 19, 3) := dk_180 0 19 (dk_at dksX1_ask_6 0 rfl rfl)
theorem dX1_ask_140 : decode cX1_ask 140 = .ok (.getfield 102, 3) := dk_180 0 102 (dk_at dksX1_ask_6 3 rfl rfl)
theorem dX1_ask_143 : decode cX1_ask 143 = .ok (.invokeinterface 70 1, 5) := by decide +kernel
theorem dX1_ask_148 : decode cX1_ask 148 = .ok (.iconst 1, 1) := dk_4 (dk_at dksX1_ask_6 11 rfl rfl)
theorem dX1_ask_149 : decode cX1_ask 149 = .ok (.isub, 1) := dk_100 (dk_at dksX1_ask_6 12 rfl rfl)
theorem dX1_ask_150 : decode cX1_ask 150 = .ok (.ireturn, 1) := dk_172 (dk_at dksX1_ask_6 13 rfl rfl)
abbrev cX1_clear : ByteArray := prog_1_method_8_code
def yX1_clear : MethodName := ⟨RX1, "clear", "()I"⟩
def dkwX1_clear_6 : List UInt8 := [132, 4, 1, 167, 255, 147, 42, 29, 43, 44, 182, 0, 135, 44, 180, 0, 121, 172]
abbrev dktX1_clear_6 : List UInt8 := dkwX1_clear_6 ++ []
def dkwX1_clear_5 : List UInt8 := [167, 0, 22, 58, 5, 21, 4, 154, 0, 15, 187, 0, 128, 89, 18, 130, 25, 5, 183, 0, 132, 191]
abbrev dktX1_clear_5 : List UInt8 := dkwX1_clear_5 ++ dktX1_clear_6
def dkwX1_clear_4 : List UInt8 := [153, 0, 8, 25, 5, 167, 0, 4, 44, 77, 21, 6, 153, 0, 8, 21, 4, 167, 0, 4, 29, 62]
abbrev dktX1_clear_4 : List UInt8 := dkwX1_clear_4 ++ dktX1_clear_5
def dkwX1_clear_3 : List UInt8 := [198, 0, 15, 25, 5, 180, 0, 121, 44, 180, 0, 121, 164, 0, 7, 4, 167, 0, 4, 3, 54, 6, 21, 6]
abbrev dktX1_clear_3 : List UInt8 := dkwX1_clear_3 ++ dktX1_clear_4
def dkwX1_clear_2 : List UInt8 := [162, 0, 96, 42, 21, 4, 182, 0, 114, 153, 0, 81, 42, 21, 4, 43, 182, 0, 117, 58, 5, 44]
abbrev dktX1_clear_2 : List UInt8 := dkwX1_clear_2 ++ dktX1_clear_3
def dkwX1_clear_1 : List UInt8 := [77, 3, 62, 3, 54, 4, 21, 4, 4, 42, 180, 0, 19, 180, 0, 85, 185, 0, 70, 1, 0, 120]
abbrev dktX1_clear_1 : List UInt8 := dkwX1_clear_1 ++ dktX1_clear_2
def dkwX1_clear_0 : List UInt8 := [42, 180, 0, 19, 180, 0, 57, 199, 0, 7, 4, 167, 0, 4, 3, 184, 0, 54, 42, 182, 0, 110, 76, 1]
abbrev dktX1_clear_0 : List UInt8 := dkwX1_clear_0 ++ dktX1_clear_1
theorem dksX1_clear_0 : cX1_clear.data.toList.drop 0 = dktX1_clear_0 := by decide +kernel
theorem dksX1_clear_1 : cX1_clear.data.toList.drop 24 = dktX1_clear_1 := dk_seg dksX1_clear_0 24 rfl rfl
theorem dksX1_clear_2 : cX1_clear.data.toList.drop 46 = dktX1_clear_2 := dk_seg dksX1_clear_1 22 rfl rfl
theorem dksX1_clear_3 : cX1_clear.data.toList.drop 68 = dktX1_clear_3 := dk_seg dksX1_clear_2 22 rfl rfl
theorem dksX1_clear_4 : cX1_clear.data.toList.drop 92 = dktX1_clear_4 := dk_seg dksX1_clear_3 24 rfl rfl
theorem dksX1_clear_5 : cX1_clear.data.toList.drop 114 = dktX1_clear_5 := dk_seg dksX1_clear_4 22 rfl rfl
theorem dksX1_clear_6 : cX1_clear.data.toList.drop 136 = dktX1_clear_6 := dk_seg dksX1_clear_5 22 rfl rfl
theorem dX1_clear_0 : decode cX1_clear 0 = .ok (.aload_n 0, 1) := dk_42 (dk_at dksX1_clear_0 0 rfl rfl)
theorem dX1_clear_1 : decode cX1_clear 1 = .ok (.getfield 19, 3) := dk_180 0 19 (dk_at dksX1_clear_0 1 rfl rfl)
theorem dX1_clear_4 : decode cX1_clear 4 = .ok (.getfield 57, 3) := dk_180 0 57 (dk_at dksX1_clear_0 4 rfl rfl)
theorem dX1_clear_7 : decode cX1_clear 7 = .ok (.ifnonnull 7, 3) := dk_199 0 7 (dk_at dksX1_clear_0 7 rfl rfl)
theorem dX1_clear_10 : decode cX1_clear 10 = .ok (.iconst 1, 1) := dk_4 (dk_at dksX1_clear_0 10 rfl rfl)
theorem dX1_clear_11 : decode cX1_clear 11 = .ok (.goto 4, 3) := dk_167 0 4 (dk_at dksX1_clear_0 11 rfl rfl)
theorem dX1_clear_14 : decode cX1_clear 14 = .ok (.iconst 0, 1) := dk_3 (dk_at dksX1_clear_0 14 rfl rfl)
theorem dX1_clear_15 : decode cX1_clear 15 = .ok (.invokestatic 54, 3) := dk_184 0 54 (dk_at dksX1_clear_0 15 rfl rfl)
theorem dX1_clear_18 : decode cX1_clear 18 = .ok (.aload_n 0, 1) := dk_42 (dk_at dksX1_clear_0 18 rfl rfl)
theorem dX1_clear_19 : decode cX1_clear 19 = .ok (.invokevirtual 110, 3) := dk_182 0 110 (dk_at dksX1_clear_0 19 rfl rfl)
theorem dX1_clear_22 : decode cX1_clear 22 = .ok (.astore_n 1, 1) := dk_76 (dk_at dksX1_clear_0 22 rfl rfl)
theorem dX1_clear_23 : decode cX1_clear 23 = .ok (.aconst_null, 1) := dk_1 (dk_at dksX1_clear_0 23 rfl rfl)
theorem dX1_clear_24 : decode cX1_clear 24 = .ok (.astore_n 2, 1) := dk_77 (dk_at dksX1_clear_1 0 rfl rfl)
theorem dX1_clear_25 : decode cX1_clear 25 = .ok (.iconst 0, 1) := dk_3 (dk_at dksX1_clear_1 1 rfl rfl)
theorem dX1_clear_26 : decode cX1_clear 26 = .ok (.istore_n 3, 1) := dk_62 (dk_at dksX1_clear_1 2 rfl rfl)
theorem dX1_clear_27 : decode cX1_clear 27 = .ok (.iconst 0, 1) := dk_3 (dk_at dksX1_clear_1 3 rfl rfl)
theorem dX1_clear_28 : decode cX1_clear 28 = .ok (.istore 4, 2) := dk_54 4 (dk_at dksX1_clear_1 4 rfl rfl)
theorem dX1_clear_30 : decode cX1_clear 30 = .ok (.iload 4, 2) := dk_21 4 (dk_at dksX1_clear_1 6 rfl rfl)
theorem dX1_clear_32 : decode cX1_clear 32 = .ok (.iconst 1, 1) := dk_4 (dk_at dksX1_clear_1 8 rfl rfl)
theorem dX1_clear_33 : decode cX1_clear 33 = .ok (.aload_n 0, 1) := dk_42 (dk_at dksX1_clear_1 9 rfl rfl)
theorem dX1_clear_34 : decode cX1_clear 34 = .ok (.getfield 19, 3) := dk_180 0 19 (dk_at dksX1_clear_1 10 rfl rfl)
theorem dX1_clear_37 : decode cX1_clear 37 = .ok (.getfield 85, 3) := dk_180 0 85 (dk_at dksX1_clear_1 13 rfl rfl)
theorem dX1_clear_40 : decode cX1_clear 40 = .ok (.invokeinterface 70 1, 5) := by decide +kernel
theorem dX1_clear_45 : decode cX1_clear 45 = .ok (.ishl, 1) := dk_120 (dk_at dksX1_clear_1 21 rfl rfl)
theorem dX1_clear_46 : decode cX1_clear 46 = .ok (.if_icmp .ge 96, 3) := dk_162 0 96 (dk_at dksX1_clear_2 0 rfl rfl)
theorem dX1_clear_49 : decode cX1_clear 49 = .ok (.aload_n 0, 1) := dk_42 (dk_at dksX1_clear_2 3 rfl rfl)
theorem dX1_clear_50 : decode cX1_clear 50 = .ok (.iload 4, 2) := dk_21 4 (dk_at dksX1_clear_2 4 rfl rfl)
theorem dX1_clear_52 : decode cX1_clear 52 = .ok (.invokevirtual 114, 3) := dk_182 0 114 (dk_at dksX1_clear_2 6 rfl rfl)
theorem dX1_clear_55 : decode cX1_clear 55 = .ok (.ifCond .eq 81, 3) := dk_153 0 81 (dk_at dksX1_clear_2 9 rfl rfl)
theorem dX1_clear_58 : decode cX1_clear 58 = .ok (.aload_n 0, 1) := dk_42 (dk_at dksX1_clear_2 12 rfl rfl)
theorem dX1_clear_59 : decode cX1_clear 59 = .ok (.iload 4, 2) := dk_21 4 (dk_at dksX1_clear_2 13 rfl rfl)
theorem dX1_clear_61 : decode cX1_clear 61 = .ok (.aload_n 1, 1) := dk_43 (dk_at dksX1_clear_2 15 rfl rfl)
theorem dX1_clear_62 : decode cX1_clear 62 = .ok (.invokevirtual 117, 3) := dk_182 0 117 (dk_at dksX1_clear_2 16 rfl rfl)
theorem dX1_clear_65 : decode cX1_clear 65 = .ok (.astore 5, 2) := dk_58 5 (dk_at dksX1_clear_2 19 rfl rfl)
theorem dX1_clear_67 : decode cX1_clear 67 = .ok (.aload_n 2, 1) := dk_44 (dk_at dksX1_clear_2 21 rfl rfl)
theorem dX1_clear_68 : decode cX1_clear 68 = .ok (.ifnull 15, 3) := dk_198 0 15 (dk_at dksX1_clear_3 0 rfl rfl)
theorem dX1_clear_71 : decode cX1_clear 71 = .ok (.aload 5, 2) := dk_25 5 (dk_at dksX1_clear_3 3 rfl rfl)
theorem dX1_clear_73 : decode cX1_clear 73 = .ok (.getfield 121, 3) := dk_180 0 121 (dk_at dksX1_clear_3 5 rfl rfl)
theorem dX1_clear_76 : decode cX1_clear 76 = .ok (.aload_n 2, 1) := dk_44 (dk_at dksX1_clear_3 8 rfl rfl)
theorem dX1_clear_77 : decode cX1_clear 77 = .ok (.getfield 121, 3) := dk_180 0 121 (dk_at dksX1_clear_3 9 rfl rfl)
theorem dX1_clear_80 : decode cX1_clear 80 = .ok (.if_icmp .le 7, 3) := dk_164 0 7 (dk_at dksX1_clear_3 12 rfl rfl)
theorem dX1_clear_83 : decode cX1_clear 83 = .ok (.iconst 1, 1) := dk_4 (dk_at dksX1_clear_3 15 rfl rfl)
theorem dX1_clear_84 : decode cX1_clear 84 = .ok (.goto 4, 3) := dk_167 0 4 (dk_at dksX1_clear_3 16 rfl rfl)
theorem dX1_clear_87 : decode cX1_clear 87 = .ok (.iconst 0, 1) := dk_3 (dk_at dksX1_clear_3 19 rfl rfl)
theorem dX1_clear_88 : decode cX1_clear 88 = .ok (.istore 6, 2) := dk_54 6 (dk_at dksX1_clear_3 20 rfl rfl)
theorem dX1_clear_90 : decode cX1_clear 90 = .ok (.iload 6, 2) := dk_21 6 (dk_at dksX1_clear_3 22 rfl rfl)
theorem dX1_clear_92 : decode cX1_clear 92 = .ok (.ifCond .eq 8, 3) := dk_153 0 8 (dk_at dksX1_clear_4 0 rfl rfl)
theorem dX1_clear_95 : decode cX1_clear 95 = .ok (.aload 5, 2) := dk_25 5 (dk_at dksX1_clear_4 3 rfl rfl)
theorem dX1_clear_97 : decode cX1_clear 97 = .ok (.goto 4, 3) := dk_167 0 4 (dk_at dksX1_clear_4 5 rfl rfl)
theorem dX1_clear_100 : decode cX1_clear 100 = .ok (.aload_n 2, 1) := dk_44 (dk_at dksX1_clear_4 8 rfl rfl)
theorem dX1_clear_101 : decode cX1_clear 101 = .ok (.astore_n 2, 1) := dk_77 (dk_at dksX1_clear_4 9 rfl rfl)
theorem dX1_clear_102 : decode cX1_clear 102 = .ok (.iload 6, 2) := dk_21 6 (dk_at dksX1_clear_4 10 rfl rfl)
theorem dX1_clear_104 : decode cX1_clear 104 = .ok (.ifCond .eq 8, 3) := dk_153 0 8 (dk_at dksX1_clear_4 12 rfl rfl)
theorem dX1_clear_107 : decode cX1_clear 107 = .ok (.iload 4, 2) := dk_21 4 (dk_at dksX1_clear_4 15 rfl rfl)
theorem dX1_clear_109 : decode cX1_clear 109 = .ok (.goto 4, 3) := dk_167 0 4 (dk_at dksX1_clear_4 17 rfl rfl)
theorem dX1_clear_112 : decode cX1_clear 112 = .ok (.iload_n 3, 1) := dk_29 (dk_at dksX1_clear_4 20 rfl rfl)
theorem dX1_clear_113 : decode cX1_clear 113 = .ok (.istore_n 3, 1) := dk_62 (dk_at dksX1_clear_4 21 rfl rfl)
theorem dX1_clear_114 : decode cX1_clear 114 = .ok (.goto 22, 3) := dk_167 0 22 (dk_at dksX1_clear_5 0 rfl rfl)
theorem dX1_clear_117 : decode cX1_clear 117 = .ok (.astore 5, 2) := dk_58 5 (dk_at dksX1_clear_5 3 rfl rfl)
theorem dX1_clear_119 : decode cX1_clear 119 = .ok (.iload 4, 2) := dk_21 4 (dk_at dksX1_clear_5 5 rfl rfl)
theorem dX1_clear_121 : decode cX1_clear 121 = .ok (.ifCond .ne 15, 3) := dk_154 0 15 (dk_at dksX1_clear_5 7 rfl rfl)
theorem dX1_clear_124 : decode cX1_clear 124 = .ok (.new 128, 3) := dk_187 0 128 (dk_at dksX1_clear_5 10 rfl rfl)
theorem dX1_clear_127 : decode cX1_clear 127 = .ok (.dup, 1) := dk_89 (dk_at dksX1_clear_5 13 rfl rfl)
theorem dX1_clear_128 : decode cX1_clear 128 = .ok (.ldc 130, 2) := dk_18 130 (dk_at dksX1_clear_5 14 rfl rfl)
theorem dX1_clear_130 : decode cX1_clear 130 = .ok (.aload 5, 2) := dk_25 5 (dk_at dksX1_clear_5 16 rfl rfl)
theorem dX1_clear_132 : decode cX1_clear 132 = .ok (.invokespecial 132, 3) := dk_183 0 132 (dk_at dksX1_clear_5 18 rfl rfl)
theorem dX1_clear_135 : decode cX1_clear 135 = .ok (.athrow, 1) := dk_191 (dk_at dksX1_clear_5 21 rfl rfl)
theorem dX1_clear_136 : decode cX1_clear 136 = .ok (.iinc 4 1, 3) := dk_132 4 1 (dk_at dksX1_clear_6 0 rfl rfl)
theorem dX1_clear_139 : decode cX1_clear 139 = .ok (.goto (-109), 3) := dk_167 255 147 (dk_at dksX1_clear_6 3 rfl rfl)
theorem dX1_clear_142 : decode cX1_clear 142 = .ok (.aload_n 0, 1) := dk_42 (dk_at dksX1_clear_6 6 rfl rfl)
theorem dX1_clear_143 : decode cX1_clear 143 = .ok (.iload_n 3, 1) := dk_29 (dk_at dksX1_clear_6 7 rfl rfl)
theorem dX1_clear_144 : decode cX1_clear 144 = .ok (.aload_n 1, 1) := dk_43 (dk_at dksX1_clear_6 8 rfl rfl)
theorem dX1_clear_145 : decode cX1_clear 145 = .ok (.aload_n 2, 1) := dk_44 (dk_at dksX1_clear_6 9 rfl rfl)
theorem dX1_clear_146 : decode cX1_clear 146 = .ok (.invokevirtual 135, 3) := dk_182 0 135 (dk_at dksX1_clear_6 10 rfl rfl)
theorem dX1_clear_149 : decode cX1_clear 149 = .ok (.aload_n 2, 1) := dk_44 (dk_at dksX1_clear_6 13 rfl rfl)
theorem dX1_clear_150 : decode cX1_clear 150 = .ok (.getfield 121, 3) := dk_180 0 121 (dk_at dksX1_clear_6 14 rfl rfl)
theorem dX1_clear_153 : decode cX1_clear 153 = .ok (.ireturn, 1) := dk_172 (dk_at dksX1_clear_6 17 rfl rfl)
abbrev cX1_curves : ByteArray := prog_1_method_51_code
def yX1_curves : MethodName := ⟨RX1, "curves", "()[[LGridMarket$Curve;"⟩
def dkwX1_curves_5 : List UInt8 := [182, 1, 80, 132, 3, 1, 167, 255, 240, 132, 2, 1, 167, 255, 227, 43, 176]
abbrev dktX1_curves_5 : List UInt8 := dkwX1_curves_5 ++ []
def dkwX1_curves_4 : List UInt8 := [167, 255, 222, 3, 61, 28, 7, 162, 0, 30, 3, 62, 29, 6, 162, 0, 17, 43, 28, 50, 29, 50]
abbrev dktX1_curves_4 : List UInt8 := dkwX1_curves_4 ++ dktX1_curves_5
def dkwX1_curves_3 : List UInt8 := [185, 0, 228, 1, 0, 192, 0, 76, 78, 43, 45, 180, 1, 73, 50, 45, 180, 1, 76, 50, 45, 182, 1, 77]
abbrev dktX1_curves_3 : List UInt8 := dkwX1_curves_3 ++ dktX1_curves_4
def dkwX1_curves_2 : List UInt8 := [180, 0, 19, 180, 0, 67, 185, 0, 218, 1, 0, 77, 44, 185, 0, 222, 1, 0, 153, 0, 31, 44]
abbrev dktX1_curves_2 : List UInt8 := dkwX1_curves_2 ++ dktX1_curves_3
def dkwX1_curves_1 : List UInt8 := [29, 187, 1, 70, 89, 183, 1, 72, 83, 132, 3, 1, 167, 255, 236, 132, 2, 1, 167, 255, 223, 42]
abbrev dktX1_curves_1 : List UInt8 := dkwX1_curves_1 ++ dktX1_curves_2
def dkwX1_curves_0 : List UInt8 := [7, 6, 197, 1, 68, 2, 76, 3, 61, 28, 7, 162, 0, 34, 3, 62, 29, 6, 162, 0, 21, 43, 28, 50]
abbrev dktX1_curves_0 : List UInt8 := dkwX1_curves_0 ++ dktX1_curves_1
theorem dksX1_curves_0 : cX1_curves.data.toList.drop 0 = dktX1_curves_0 := by decide +kernel
theorem dksX1_curves_1 : cX1_curves.data.toList.drop 24 = dktX1_curves_1 := dk_seg dksX1_curves_0 24 rfl rfl
theorem dksX1_curves_2 : cX1_curves.data.toList.drop 46 = dktX1_curves_2 := dk_seg dksX1_curves_1 22 rfl rfl
theorem dksX1_curves_3 : cX1_curves.data.toList.drop 68 = dktX1_curves_3 := dk_seg dksX1_curves_2 22 rfl rfl
theorem dksX1_curves_4 : cX1_curves.data.toList.drop 92 = dktX1_curves_4 := dk_seg dksX1_curves_3 24 rfl rfl
theorem dksX1_curves_5 : cX1_curves.data.toList.drop 114 = dktX1_curves_5 := dk_seg dksX1_curves_4 22 rfl rfl
theorem dX1_curves_0 : decode cX1_curves 0 = .ok (.iconst 4, 1) := dk_7 (dk_at dksX1_curves_0 0 rfl rfl)
theorem dX1_curves_1 : decode cX1_curves 1 = .ok (.iconst 3, 1) := dk_6 (dk_at dksX1_curves_0 1 rfl rfl)
theorem dX1_curves_2 : decode cX1_curves 2 = .ok (.multianewarray 324 2, 4) := by decide +kernel
theorem dX1_curves_6 : decode cX1_curves 6 = .ok (.astore_n 1, 1) := dk_76 (dk_at dksX1_curves_0 6 rfl rfl)
theorem dX1_curves_7 : decode cX1_curves 7 = .ok (.iconst 0, 1) := dk_3 (dk_at dksX1_curves_0 7 rfl rfl)
theorem dX1_curves_8 : decode cX1_curves 8 = .ok (.istore_n 2, 1) := dk_61 (dk_at dksX1_curves_0 8 rfl rfl)
theorem dX1_curves_9 : decode cX1_curves 9 = .ok (.iload_n 2, 1) := dk_28 (dk_at dksX1_curves_0 9 rfl rfl)
theorem dX1_curves_10 : decode cX1_curves 10 = .ok (.iconst 4, 1) := dk_7 (dk_at dksX1_curves_0 10 rfl rfl)
theorem dX1_curves_11 : decode cX1_curves 11 = .ok (.if_icmp .ge 34, 3) := dk_162 0 34 (dk_at dksX1_curves_0 11 rfl rfl)
theorem dX1_curves_14 : decode cX1_curves 14 = .ok (.iconst 0, 1) := dk_3 (dk_at dksX1_curves_0 14 rfl rfl)
theorem dX1_curves_15 : decode cX1_curves 15 = .ok (.istore_n 3, 1) := dk_62 (dk_at dksX1_curves_0 15 rfl rfl)
theorem dX1_curves_16 : decode cX1_curves 16 = .ok (.iload_n 3, 1) := dk_29 (dk_at dksX1_curves_0 16 rfl rfl)
theorem dX1_curves_17 : decode cX1_curves 17 = .ok (.iconst 3, 1) := dk_6 (dk_at dksX1_curves_0 17 rfl rfl)
theorem dX1_curves_18 : decode cX1_curves 18 = .ok (.if_icmp .ge 21, 3) := dk_162 0 21 (dk_at dksX1_curves_0 18 rfl rfl)
theorem dX1_curves_21 : decode cX1_curves 21 = .ok (.aload_n 1, 1) := dk_43 (dk_at dksX1_curves_0 21 rfl rfl)
theorem dX1_curves_22 : decode cX1_curves 22 = .ok (.iload_n 2, 1) := dk_28 (dk_at dksX1_curves_0 22 rfl rfl)
theorem dX1_curves_23 : decode cX1_curves 23 = .ok (.aaload, 1) := dk_50 (dk_at dksX1_curves_0 23 rfl rfl)
theorem dX1_curves_24 : decode cX1_curves 24 = .ok (.iload_n 3, 1) := dk_29 (dk_at dksX1_curves_1 0 rfl rfl)
theorem dX1_curves_25 : decode cX1_curves 25 = .ok (.new 326, 3) := dk_187 1 70 (dk_at dksX1_curves_1 1 rfl rfl)
theorem dX1_curves_28 : decode cX1_curves 28 = .ok (.dup, 1) := dk_89 (dk_at dksX1_curves_1 4 rfl rfl)
theorem dX1_curves_29 : decode cX1_curves 29 = .ok (.invokespecial 328, 3) := dk_183 1 72 (dk_at dksX1_curves_1 5 rfl rfl)
theorem dX1_curves_32 : decode cX1_curves 32 = .ok (.aastore, 1) := dk_83 (dk_at dksX1_curves_1 8 rfl rfl)
theorem dX1_curves_33 : decode cX1_curves 33 = .ok (.iinc 3 1, 3) := dk_132 3 1 (dk_at dksX1_curves_1 9 rfl rfl)
theorem dX1_curves_36 : decode cX1_curves 36 = .ok (.goto (-20), 3) := dk_167 255 236 (dk_at dksX1_curves_1 12 rfl rfl)
theorem dX1_curves_39 : decode cX1_curves 39 = .ok (.iinc 2 1, 3) := dk_132 2 1 (dk_at dksX1_curves_1 15 rfl rfl)
theorem dX1_curves_42 : decode cX1_curves 42 = .ok (.goto (-33), 3) := dk_167 255 223 (dk_at dksX1_curves_1 18 rfl rfl)
theorem dX1_curves_45 : decode cX1_curves 45 = .ok (.aload_n 0, 1) := dk_42 (dk_at dksX1_curves_1 21 rfl rfl)
theorem dX1_curves_46 : decode cX1_curves 46 = .ok (.getfield 19, 3) := dk_180 0 19 (dk_at dksX1_curves_2 0 rfl rfl)
theorem dX1_curves_49 : decode cX1_curves 49 = .ok (.getfield 67, 3) := dk_180 0 67 (dk_at dksX1_curves_2 3 rfl rfl)
theorem dX1_curves_52 : decode cX1_curves 52 = .ok (.invokeinterface 218 1, 5) := by decide +kernel
theorem dX1_curves_57 : decode cX1_curves 57 = .ok (.astore_n 2, 1) := dk_77 (dk_at dksX1_curves_2 11 rfl rfl)
theorem dX1_curves_58 : decode cX1_curves 58 = .ok (.aload_n 2, 1) := dk_44 (dk_at dksX1_curves_2 12 rfl rfl)
theorem dX1_curves_59 : decode cX1_curves 59 = .ok (.invokeinterface 222 1, 5) := by decide +kernel
theorem dX1_curves_64 : decode cX1_curves 64 = .ok (.ifCond .eq 31, 3) := dk_153 0 31 (dk_at dksX1_curves_2 18 rfl rfl)
theorem dX1_curves_67 : decode cX1_curves 67 = .ok (.aload_n 2, 1) := dk_44 (dk_at dksX1_curves_2 21 rfl rfl)
theorem dX1_curves_68 : decode cX1_curves 68 = .ok (.invokeinterface 228 1, 5) := by decide +kernel
theorem dX1_curves_73 : decode cX1_curves 73 = .ok (.checkcast 76, 3) := dk_192 0 76 (dk_at dksX1_curves_3 5 rfl rfl)
theorem dX1_curves_76 : decode cX1_curves 76 = .ok (.astore_n 3, 1) := dk_78 (dk_at dksX1_curves_3 8 rfl rfl)
theorem dX1_curves_77 : decode cX1_curves 77 = .ok (.aload_n 1, 1) := dk_43 (dk_at dksX1_curves_3 9 rfl rfl)
theorem dX1_curves_78 : decode cX1_curves 78 = .ok (.aload_n 3, 1) := dk_45 (dk_at dksX1_curves_3 10 rfl rfl)
theorem dX1_curves_79 : decode cX1_curves 79 = .ok (.getfield 329, 3) := dk_180 1 73 (dk_at dksX1_curves_3 11 rfl rfl)
theorem dX1_curves_82 : decode cX1_curves 82 = .ok (.aaload, 1) := dk_50 (dk_at dksX1_curves_3 14 rfl rfl)
theorem dX1_curves_83 : decode cX1_curves 83 = .ok (.aload_n 3, 1) := dk_45 (dk_at dksX1_curves_3 15 rfl rfl)
theorem dX1_curves_84 : decode cX1_curves 84 = .ok (.getfield 332, 3) := dk_180 1 76 (dk_at dksX1_curves_3 16 rfl rfl)
theorem dX1_curves_87 : decode cX1_curves 87 = .ok (.aaload, 1) := dk_50 (dk_at dksX1_curves_3 19 rfl rfl)
theorem dX1_curves_88 : decode cX1_curves 88 = .ok (.aload_n 3, 1) := dk_45 (dk_at dksX1_curves_3 20 rfl rfl)
theorem dX1_curves_89 : decode cX1_curves 89 = .ok (.invokevirtual 333, 3) := dk_182 1 77 (dk_at dksX1_curves_3 21 rfl rfl)
theorem dX1_curves_92 : decode cX1_curves 92 = .ok (.goto (-34), 3) := dk_167 255 222 (dk_at dksX1_curves_4 0 rfl rfl)
theorem dX1_curves_95 : decode cX1_curves 95 = .ok (.iconst 0, 1) := dk_3 (dk_at dksX1_curves_4 3 rfl rfl)
theorem dX1_curves_96 : decode cX1_curves 96 = .ok (.istore_n 2, 1) := dk_61 (dk_at dksX1_curves_4 4 rfl rfl)
theorem dX1_curves_97 : decode cX1_curves 97 = .ok (.iload_n 2, 1) := dk_28 (dk_at dksX1_curves_4 5 rfl rfl)
theorem dX1_curves_98 : decode cX1_curves 98 = .ok (.iconst 4, 1) := dk_7 (dk_at dksX1_curves_4 6 rfl rfl)
theorem dX1_curves_99 : decode cX1_curves 99 = .ok (.if_icmp .ge 30, 3) := dk_162 0 30 (dk_at dksX1_curves_4 7 rfl rfl)
theorem dX1_curves_102 : decode cX1_curves 102 = .ok (.iconst 0, 1) := dk_3 (dk_at dksX1_curves_4 10 rfl rfl)
theorem dX1_curves_103 : decode cX1_curves 103 = .ok (.istore_n 3, 1) := dk_62 (dk_at dksX1_curves_4 11 rfl rfl)
theorem dX1_curves_104 : decode cX1_curves 104 = .ok (.iload_n 3, 1) := dk_29 (dk_at dksX1_curves_4 12 rfl rfl)
theorem dX1_curves_105 : decode cX1_curves 105 = .ok (.iconst 3, 1) := dk_6 (dk_at dksX1_curves_4 13 rfl rfl)
theorem dX1_curves_106 : decode cX1_curves 106 = .ok (.if_icmp .ge 17, 3) := dk_162 0 17 (dk_at dksX1_curves_4 14 rfl rfl)
theorem dX1_curves_109 : decode cX1_curves 109 = .ok (.aload_n 1, 1) := dk_43 (dk_at dksX1_curves_4 17 rfl rfl)
theorem dX1_curves_110 : decode cX1_curves 110 = .ok (.iload_n 2, 1) := dk_28 (dk_at dksX1_curves_4 18 rfl rfl)
theorem dX1_curves_111 : decode cX1_curves 111 = .ok (.aaload, 1) := dk_50 (dk_at dksX1_curves_4 19 rfl rfl)
theorem dX1_curves_112 : decode cX1_curves 112 = .ok (.iload_n 3, 1) := dk_29 (dk_at dksX1_curves_4 20 rfl rfl)
theorem dX1_curves_113 : decode cX1_curves 113 = .ok (.aaload, 1) := dk_50 (dk_at dksX1_curves_4 21 rfl rfl)
theorem dX1_curves_114 : decode cX1_curves 114 = .ok (.invokevirtual 336, 3) := dk_182 1 80 (dk_at dksX1_curves_5 0 rfl rfl)
theorem dX1_curves_117 : decode cX1_curves 117 = .ok (.iinc 3 1, 3) := dk_132 3 1 (dk_at dksX1_curves_5 3 rfl rfl)
theorem dX1_curves_120 : decode cX1_curves 120 = .ok (.goto (-16), 3) := dk_167 255 240 (dk_at dksX1_curves_5 6 rfl rfl)
theorem dX1_curves_123 : decode cX1_curves 123 = .ok (.iinc 2 1, 3) := dk_132 2 1 (dk_at dksX1_curves_5 9 rfl rfl)
theorem dX1_curves_126 : decode cX1_curves 126 = .ok (.goto (-29), 3) := dk_167 255 227 (dk_at dksX1_curves_5 12 rfl rfl)
theorem dX1_curves_129 : decode cX1_curves 129 = .ok (.aload_n 1, 1) := dk_43 (dk_at dksX1_curves_5 15 rfl rfl)
theorem dX1_curves_130 : decode cX1_curves 130 = .ok (.areturn, 1) := dk_176 (dk_at dksX1_curves_5 16 rfl rfl)
abbrev cX1_isAllowed : ByteArray := prog_1_method_48_code
def yX1_isAllowed : MethodName := ⟨RX1, "isAllowed", "(I)Z"⟩
def dkwX1_isAllowed_7 : List UInt8 := [4, 167, 0, 4, 3, 61, 132, 6, 1, 167, 255, 173, 132, 3, 1, 167, 255, 77, 28, 172]
abbrev dktX1_isAllowed_7 : List UInt8 := dkwX1_isAllowed_7 ++ []
def dkwX1_isAllowed_6 : List UInt8 := [180, 0, 85, 21, 6, 185, 0, 91, 2, 0, 192, 0, 88, 180, 0, 99, 25, 4, 180, 0, 99, 159, 0, 7]
abbrev dktX1_isAllowed_6 : List UInt8 := dkwX1_isAllowed_6 ++ dktX1_isAllowed_7
def dkwX1_isAllowed_5 : List UInt8 := [2, 159, 0, 7, 4, 167, 0, 4, 3, 54, 7, 28, 153, 0, 40, 21, 7, 153, 0, 31, 42, 180, 0, 19]
abbrev dktX1_isAllowed_5 : List UInt8 := dkwX1_isAllowed_5 ++ dktX1_isAllowed_6
def dkwX1_isAllowed_4 : List UInt8 := [29, 162, 0, 83, 21, 5, 153, 0, 26, 27, 21, 6, 122, 4, 126, 4, 160, 0, 16, 25, 4, 180, 0, 99]
abbrev dktX1_isAllowed_4 : List UInt8 := dkwX1_isAllowed_4 ++ dktX1_isAllowed_5
def dkwX1_isAllowed_3 : List UInt8 := [27, 25, 4, 180, 0, 95, 122, 4, 126, 4, 160, 0, 7, 4, 167, 0, 4, 3, 61, 3, 54, 6, 21, 6]
abbrev dktX1_isAllowed_3 : List UInt8 := dkwX1_isAllowed_3 ++ dktX1_isAllowed_4
def dkwX1_isAllowed_2 : List UInt8 := [167, 0, 4, 3, 54, 5, 28, 153, 0, 34, 21, 5, 153, 0, 25, 25, 4, 180, 0, 95, 2, 159, 0, 16]
abbrev dktX1_isAllowed_2 : List UInt8 := dkwX1_isAllowed_2 ++ dktX1_isAllowed_3
def dkwX1_isAllowed_1 : List UInt8 := [180, 0, 85, 29, 185, 0, 91, 2, 0, 192, 0, 88, 58, 4, 27, 29, 122, 4, 126, 4, 160, 0, 7, 4]
abbrev dktX1_isAllowed_1 : List UInt8 := dkwX1_isAllowed_1 ++ dktX1_isAllowed_2
def dkwX1_isAllowed_0 : List UInt8 := [4, 61, 3, 62, 29, 42, 180, 0, 19, 180, 0, 85, 185, 0, 70, 1, 0, 162, 0, 169, 42, 180, 0, 19]
abbrev dktX1_isAllowed_0 : List UInt8 := dkwX1_isAllowed_0 ++ dktX1_isAllowed_1
theorem dksX1_isAllowed_0 : cX1_isAllowed.data.toList.drop 0 = dktX1_isAllowed_0 := by decide +kernel
theorem dksX1_isAllowed_1 : cX1_isAllowed.data.toList.drop 24 = dktX1_isAllowed_1 := dk_seg dksX1_isAllowed_0 24 rfl rfl
theorem dksX1_isAllowed_2 : cX1_isAllowed.data.toList.drop 48 = dktX1_isAllowed_2 := dk_seg dksX1_isAllowed_1 24 rfl rfl
theorem dksX1_isAllowed_3 : cX1_isAllowed.data.toList.drop 72 = dktX1_isAllowed_3 := dk_seg dksX1_isAllowed_2 24 rfl rfl
theorem dksX1_isAllowed_4 : cX1_isAllowed.data.toList.drop 96 = dktX1_isAllowed_4 := dk_seg dksX1_isAllowed_3 24 rfl rfl
theorem dksX1_isAllowed_5 : cX1_isAllowed.data.toList.drop 120 = dktX1_isAllowed_5 := dk_seg dksX1_isAllowed_4 24 rfl rfl
theorem dksX1_isAllowed_6 : cX1_isAllowed.data.toList.drop 144 = dktX1_isAllowed_6 := dk_seg dksX1_isAllowed_5 24 rfl rfl
theorem dksX1_isAllowed_7 : cX1_isAllowed.data.toList.drop 168 = dktX1_isAllowed_7 := dk_seg dksX1_isAllowed_6 24 rfl rfl
theorem dX1_isAllowed_0 : decode cX1_isAllowed 0 = .ok (.iconst 1, 1) := dk_4 (dk_at dksX1_isAllowed_0 0 rfl rfl)
theorem dX1_isAllowed_1 : decode cX1_isAllowed 1 = .ok (.istore_n 2, 1) := dk_61 (dk_at dksX1_isAllowed_0 1 rfl rfl)
theorem dX1_isAllowed_2 : decode cX1_isAllowed 2 = .ok (.iconst 0, 1) := dk_3 (dk_at dksX1_isAllowed_0 2 rfl rfl)
theorem dX1_isAllowed_3 : decode cX1_isAllowed 3 = .ok (.istore_n 3, 1) := dk_62 (dk_at dksX1_isAllowed_0 3 rfl rfl)
theorem dX1_isAllowed_4 : decode cX1_isAllowed 4 = .ok (.iload_n 3, 1) := dk_29 (dk_at dksX1_isAllowed_0 4 rfl rfl)
theorem dX1_isAllowed_5 : decode cX1_isAllowed 5 = .ok (.aload_n 0, 1) := dk_42 (dk_at dksX1_isAllowed_0 5 rfl rfl)
theorem dX1_isAllowed_6 : decode cX1_isAllowed 6 = .ok (.getfield 19, 3) := dk_180 0 19 (dk_at dksX1_isAllowed_0 6 rfl rfl)
theorem dX1_isAllowed_9 : decode cX1_isAllowed 9 = .ok (.getfield 85, 3) := dk_180 0 85 (dk_at dksX1_isAllowed_0 9 rfl rfl)
theorem dX1_isAllowed_12 : decode cX1_isAllowed 12 = .ok (.invokeinterface 70 1, 5) := by decide +kernel
theorem dX1_isAllowed_17 : decode cX1_isAllowed 17 = .ok (.if_icmp .ge 169, 3) := dk_162 0 169 (dk_at dksX1_isAllowed_0 17 rfl rfl)
theorem dX1_isAllowed_20 : decode cX1_isAllowed 20 = .ok (.aload_n 0, 1) := dk_42 (dk_at dksX1_isAllowed_0 20 rfl rfl)
theorem dX1_isAllowed_21 : decode cX1_isAllowed 21 = .ok (.getfield 19, 3) := dk_180 0 19 (dk_at dksX1_isAllowed_0 21 rfl rfl)
theorem dX1_isAllowed_24 : decode cX1_isAllowed 24 = .ok (.getfield 85, 3) := dk_180 0 85 (dk_at dksX1_isAllowed_1 0 rfl rfl)
theorem dX1_isAllowed_27 : decode cX1_isAllowed 27 = .ok (.iload_n 3, 1) := dk_29 (dk_at dksX1_isAllowed_1 3 rfl rfl)
theorem dX1_isAllowed_28 : decode cX1_isAllowed 28 = .ok (.invokeinterface 91 2, 5) := by decide +kernel
theorem dX1_isAllowed_33 : decode cX1_isAllowed 33 = .ok (.checkcast 88, 3) := dk_192 0 88 (dk_at dksX1_isAllowed_1 9 rfl rfl)
theorem dX1_isAllowed_36 : decode cX1_isAllowed 36 = .ok (.astore 4, 2) := dk_58 4 (dk_at dksX1_isAllowed_1 12 rfl rfl)
theorem dX1_isAllowed_38 : decode cX1_isAllowed 38 = .ok (.iload_n 1, 1) := dk_27 (dk_at dksX1_isAllowed_1 14 rfl rfl)
theorem dX1_isAllowed_39 : decode cX1_isAllowed 39 = .ok (.iload_n 3, 1) := dk_29 (dk_at dksX1_isAllowed_1 15 rfl rfl)
theorem dX1_isAllowed_40 : decode cX1_isAllowed 40 = .ok (.ishr, 1) := dk_122 (dk_at dksX1_isAllowed_1 16 rfl rfl)
theorem dX1_isAllowed_41 : decode cX1_isAllowed 41 = .ok (.iconst 1, 1) := dk_4 (dk_at dksX1_isAllowed_1 17 rfl rfl)
theorem dX1_isAllowed_42 : decode cX1_isAllowed 42 = .ok (.iand, 1) := dk_126 (dk_at dksX1_isAllowed_1 18 rfl rfl)
theorem dX1_isAllowed_43 : decode cX1_isAllowed 43 = .ok (.iconst 1, 1) := dk_4 (dk_at dksX1_isAllowed_1 19 rfl rfl)
theorem dX1_isAllowed_44 : decode cX1_isAllowed 44 = .ok (.if_icmp .ne 7, 3) := dk_160 0 7 (dk_at dksX1_isAllowed_1 20 rfl rfl)
theorem dX1_isAllowed_47 : decode cX1_isAllowed 47 = .ok (.iconst 1, 1) := dk_4 (dk_at dksX1_isAllowed_1 23 rfl rfl)
theorem dX1_isAllowed_48 : decode cX1_isAllowed 48 = .ok (.goto 4, 3) := dk_167 0 4 (dk_at dksX1_isAllowed_2 0 rfl rfl)
theorem dX1_isAllowed_51 : decode cX1_isAllowed 51 = .ok (.iconst 0, 1) := dk_3 (dk_at dksX1_isAllowed_2 3 rfl rfl)
theorem dX1_isAllowed_52 : decode cX1_isAllowed 52 = .ok (.istore 5, 2) := dk_54 5 (dk_at dksX1_isAllowed_2 4 rfl rfl)
theorem dX1_isAllowed_54 : decode cX1_isAllowed 54 = .ok (.iload_n 2, 1) := dk_28 (dk_at dksX1_isAllowed_2 6 rfl rfl)
theorem dX1_isAllowed_55 : decode cX1_isAllowed 55 = .ok (.ifCond .eq 34, 3) := dk_153 0 34 (dk_at dksX1_isAllowed_2 7 rfl rfl)
theorem dX1_isAllowed_58 : decode cX1_isAllowed 58 = .ok (.iload 5, 2) := dk_21 5 (dk_at dksX1_isAllowed_2 10 rfl rfl)
theorem dX1_isAllowed_60 : decode cX1_isAllowed 60 = .ok (.ifCond .eq 25, 3) := dk_153 0 25 (dk_at dksX1_isAllowed_2 12 rfl rfl)
theorem dX1_isAllowed_63 : decode cX1_isAllowed 63 = .ok (.aload 4, 2) := dk_25 4 (dk_at dksX1_isAllowed_2 15 rfl rfl)
theorem dX1_isAllowed_65 : decode cX1_isAllowed 65 = .ok (.getfield 95, 3) := dk_180 0 95 (dk_at dksX1_isAllowed_2 17 rfl rfl)
theorem dX1_isAllowed_68 : decode cX1_isAllowed 68 = .ok (.iconst (-1), 1) := dk_2 (dk_at dksX1_isAllowed_2 20 rfl rfl)
theorem dX1_isAllowed_69 : decode cX1_isAllowed 69 = .ok (.if_icmp .eq 16, 3) := dk_159 0 16 (dk_at dksX1_isAllowed_2 21 rfl rfl)
theorem dX1_isAllowed_72 : decode cX1_isAllowed 72 = .ok (.iload_n 1, 1) := dk_27 (dk_at dksX1_isAllowed_3 0 rfl rfl)
theorem dX1_isAllowed_73 : decode cX1_isAllowed 73 = .ok (.aload 4, 2) := dk_25 4 (dk_at dksX1_isAllowed_3 1 rfl rfl)
theorem dX1_isAllowed_75 : decode cX1_isAllowed 75 = .ok (.getfield 95, 3) := dk_180 0 95 (dk_at dksX1_isAllowed_3 3 rfl rfl)
theorem dX1_isAllowed_78 : decode cX1_isAllowed 78 = .ok (.ishr, 1) := dk_122 (dk_at dksX1_isAllowed_3 6 rfl rfl)
theorem dX1_isAllowed_79 : decode cX1_isAllowed 79 = .ok (.iconst 1, 1) := dk_4 (dk_at dksX1_isAllowed_3 7 rfl rfl)
theorem dX1_isAllowed_80 : decode cX1_isAllowed 80 = .ok (.iand, 1) := dk_126 (dk_at dksX1_isAllowed_3 8 rfl rfl)
theorem dX1_isAllowed_81 : decode cX1_isAllowed 81 = .ok (.iconst 1, 1) := dk_4 (dk_at dksX1_isAllowed_3 9 rfl rfl)
theorem dX1_isAllowed_82 : decode cX1_isAllowed 82 = .ok (.if_icmp .ne 7, 3) := dk_160 0 7 (dk_at dksX1_isAllowed_3 10 rfl rfl)
theorem dX1_isAllowed_85 : decode cX1_isAllowed 85 = .ok (.iconst 1, 1) := dk_4 (dk_at dksX1_isAllowed_3 13 rfl rfl)
theorem dX1_isAllowed_86 : decode cX1_isAllowed 86 = .ok (.goto 4, 3) := dk_167 0 4 (dk_at dksX1_isAllowed_3 14 rfl rfl)
theorem dX1_isAllowed_89 : decode cX1_isAllowed 89 = .ok (.iconst 0, 1) := dk_3 (dk_at dksX1_isAllowed_3 17 rfl rfl)
theorem dX1_isAllowed_90 : decode cX1_isAllowed 90 = .ok (.istore_n 2, 1) := dk_61 (dk_at dksX1_isAllowed_3 18 rfl rfl)
theorem dX1_isAllowed_91 : decode cX1_isAllowed 91 = .ok (.iconst 0, 1) := dk_3 (dk_at dksX1_isAllowed_3 19 rfl rfl)
theorem dX1_isAllowed_92 : decode cX1_isAllowed 92 = .ok (.istore 6, 2) := dk_54 6 (dk_at dksX1_isAllowed_3 20 rfl rfl)
theorem dX1_isAllowed_94 : decode cX1_isAllowed 94 = .ok (.iload 6, 2) := dk_21 6 (dk_at dksX1_isAllowed_3 22 rfl rfl)
theorem dX1_isAllowed_96 : decode cX1_isAllowed 96 = .ok (.iload_n 3, 1) := dk_29 (dk_at dksX1_isAllowed_4 0 rfl rfl)
theorem dX1_isAllowed_97 : decode cX1_isAllowed 97 = .ok (.if_icmp .ge 83, 3) := dk_162 0 83 (dk_at dksX1_isAllowed_4 1 rfl rfl)
theorem dX1_isAllowed_100 : decode cX1_isAllowed 100 = .ok (.iload 5, 2) := dk_21 5 (dk_at dksX1_isAllowed_4 4 rfl rfl)
theorem dX1_isAllowed_102 : decode cX1_isAllowed 102 = .ok (.ifCond .eq 26, 3) := dk_153 0 26 (dk_at dksX1_isAllowed_4 6 rfl rfl)
theorem dX1_isAllowed_105 : decode cX1_isAllowed 105 = .ok (.iload_n 1, 1) := dk_27 (dk_at dksX1_isAllowed_4 9 rfl rfl)
theorem dX1_isAllowed_106 : decode cX1_isAllowed 106 = .ok (.iload 6, 2) := dk_21 6 (dk_at dksX1_isAllowed_4 10 rfl rfl)
theorem dX1_isAllowed_108 : decode cX1_isAllowed 108 = .ok (.ishr, 1) := dk_122 (dk_at dksX1_isAllowed_4 12 rfl rfl)
theorem dX1_isAllowed_109 : decode cX1_isAllowed 109 = .ok (.iconst 1, 1) := dk_4 (dk_at dksX1_isAllowed_4 13 rfl rfl)
theorem dX1_isAllowed_110 : decode cX1_isAllowed 110 = .ok (.iand, 1) := dk_126 (dk_at dksX1_isAllowed_4 14 rfl rfl)
theorem dX1_isAllowed_111 : decode cX1_isAllowed 111 = .ok (.iconst 1, 1) := dk_4 (dk_at dksX1_isAllowed_4 15 rfl rfl)
theorem dX1_isAllowed_112 : decode cX1_isAllowed 112 = .ok (.if_icmp .ne 16, 3) := dk_160 0 16 (dk_at dksX1_isAllowed_4 16 rfl rfl)
theorem dX1_isAllowed_115 : decode cX1_isAllowed 115 = .ok (.aload 4, 2) := dk_25 4 (dk_at dksX1_isAllowed_4 19 rfl rfl)
theorem dX1_isAllowed_117 : decode cX1_isAllowed 117 = .ok (.getfield 99, 3) := dk_180 0 99 (dk_at dksX1_isAllowed_4 21 rfl rfl)
theorem dX1_isAllowed_120 : decode cX1_isAllowed 120 = .ok (.iconst (-1), 1) := dk_2 (dk_at dksX1_isAllowed_5 0 rfl rfl)
theorem dX1_isAllowed_121 : decode cX1_isAllowed 121 = .ok (.if_icmp .eq 7, 3) := dk_159 0 7 (dk_at dksX1_isAllowed_5 1 rfl rfl)
theorem dX1_isAllowed_124 : decode cX1_isAllowed 124 = .ok (.iconst 1, 1) := dk_4 (dk_at dksX1_isAllowed_5 4 rfl rfl)
theorem dX1_isAllowed_125 : decode cX1_isAllowed 125 = .ok (.goto 4, 3) := dk_167 0 4 (dk_at dksX1_isAllowed_5 5 rfl rfl)
theorem dX1_isAllowed_128 : decode cX1_isAllowed 128 = .ok (.iconst 0, 1) := dk_3 (dk_at dksX1_isAllowed_5 8 rfl rfl)
theorem dX1_isAllowed_129 : decode cX1_isAllowed 129 = .ok (.istore 7, 2) := dk_54 7 (dk_at dksX1_isAllowed_5 9 rfl rfl)
theorem dX1_isAllowed_131 : decode cX1_isAllowed 131 = .ok (.iload_n 2, 1) := dk_28 (dk_at dksX1_isAllowed_5 11 rfl rfl)
theorem dX1_isAllowed_132 : decode cX1_isAllowed 132 = .ok (.ifCond .eq 40, 3) := dk_153 0 40 (dk_at dksX1_isAllowed_5 12 rfl rfl)
theorem dX1_isAllowed_135 : decode cX1_isAllowed 135 = .ok (.iload 7, 2) := dk_21 7 (dk_at dksX1_isAllowed_5 15 rfl rfl)
theorem dX1_isAllowed_137 : decode cX1_isAllowed 137 = .ok (.ifCond .eq 31, 3) := dk_153 0 31 (dk_at dksX1_isAllowed_5 17 rfl rfl)
theorem dX1_isAllowed_140 : decode cX1_isAllowed 140 = .ok (.aload_n 0, 1) := dk_42 (dk_at dksX1_isAllowed_5 20 rfl rfl)
theorem dX1_isAllowed_141 : decode cX1_isAllowed 141 = .ok (.getfield 19, 3) := dk_180 0 19 (dk_at dksX1_isAllowed_5 21 rfl rfl)
theorem dX1_isAllowed_144 : decode cX1_isAllowed 144 = .ok (.getfield 85, 3) := dk_180 0 85 (dk_at dksX1_isAllowed_6 0 rfl rfl)
theorem dX1_isAllowed_147 : decode cX1_isAllowed 147 = .ok (.iload 6, 2) := dk_21 6 (dk_at dksX1_isAllowed_6 3 rfl rfl)
theorem dX1_isAllowed_149 : decode cX1_isAllowed 149 = .ok (.invokeinterface 91 2, 5) := by decide +kernel
theorem dX1_isAllowed_154 : decode cX1_isAllowed 154 = .ok (.checkcast 88, 3) := dk_192 0 88 (dk_at dksX1_isAllowed_6 10 rfl rfl)
theorem dX1_isAllowed_157 : decode cX1_isAllowed 157 = .ok (.getfield 99, 3) := dk_180 0 99 (dk_at dksX1_isAllowed_6 13 rfl rfl)
theorem dX1_isAllowed_160 : decode cX1_isAllowed 160 = .ok (.aload 4, 2) := dk_25 4 (dk_at dksX1_isAllowed_6 16 rfl rfl)
theorem dX1_isAllowed_162 : decode cX1_isAllowed 162 = .ok (.getfield 99, 3) := dk_180 0 99 (dk_at dksX1_isAllowed_6 18 rfl rfl)
theorem dX1_isAllowed_165 : decode cX1_isAllowed 165 = .ok (.if_icmp .eq 7, 3) := dk_159 0 7 (dk_at dksX1_isAllowed_6 21 rfl rfl)
theorem dX1_isAllowed_168 : decode cX1_isAllowed 168 = .ok (.iconst 1, 1) := dk_4 (dk_at dksX1_isAllowed_7 0 rfl rfl)
theorem dX1_isAllowed_169 : decode cX1_isAllowed 169 = .ok (.goto 4, 3) := dk_167 0 4 (dk_at dksX1_isAllowed_7 1 rfl rfl)
theorem dX1_isAllowed_172 : decode cX1_isAllowed 172 = .ok (.iconst 0, 1) := dk_3 (dk_at dksX1_isAllowed_7 4 rfl rfl)
theorem dX1_isAllowed_173 : decode cX1_isAllowed 173 = .ok (.istore_n 2, 1) := dk_61 (dk_at dksX1_isAllowed_7 5 rfl rfl)
theorem dX1_isAllowed_174 : decode cX1_isAllowed 174 = .ok (.iinc 6 1, 3) := dk_132 6 1 (dk_at dksX1_isAllowed_7 6 rfl rfl)
theorem dX1_isAllowed_177 : decode cX1_isAllowed 177 = .ok (.goto (-83), 3) := dk_167 255 173 (dk_at dksX1_isAllowed_7 9 rfl rfl)
theorem dX1_isAllowed_180 : decode cX1_isAllowed 180 = .ok (.iinc 3 1, 3) := dk_132 3 1 (dk_at dksX1_isAllowed_7 12 rfl rfl)
theorem dX1_isAllowed_183 : decode cX1_isAllowed 183 = .ok (.goto (-179), 3) := dk_167 255 77 (dk_at dksX1_isAllowed_7 15 rfl rfl)
theorem dX1_isAllowed_186 : decode cX1_isAllowed 186 = .ok (.iload_n 2, 1) := dk_28 (dk_at dksX1_isAllowed_7 18 rfl rfl)
theorem dX1_isAllowed_187 : decode cX1_isAllowed 187 = .ok (.ireturn, 1) := dk_172 (dk_at dksX1_isAllowed_7 19 rfl rfl)
abbrev cX1_resultOf : ByteArray := prog_1_method_49_code
def yX1_resultOf : MethodName := ⟨RX1, "resultOf", "(I[[LGridMarket$Curve;)LGridMarket$Result;"⟩
def dkwX1_resultOf_10 : List UInt8 := [181, 0, 121, 132, 5, 1, 167, 255, 149, 45, 176]
abbrev dktX1_resultOf_10 : List UInt8 := dkwX1_resultOf_10 ++ []
def dkwX1_resultOf_9 : List UInt8 := [183, 1, 33, 191, 45, 89, 180, 0, 121, 21, 7, 153, 0, 11, 25, 6, 182, 0, 238, 167, 0, 4, 3, 96]
abbrev dktX1_resultOf_9 : List UInt8 := dkwX1_resultOf_9 ++ dktX1_resultOf_10
def dkwX1_resultOf_8 : List UInt8 := [153, 0, 26, 25, 6, 45, 180, 0, 196, 182, 0, 214, 156, 0, 14, 187, 0, 126, 89, 19, 1, 60]
abbrev dktX1_resultOf_8 : List UInt8 := dkwX1_resultOf_8 ++ dktX1_resultOf_9
def dkwX1_resultOf_7 : List UInt8 := [192, 0, 88, 58, 6, 27, 21, 5, 122, 4, 126, 4, 160, 0, 7, 4, 167, 0, 4, 3, 54, 7, 21, 7]
abbrev dktX1_resultOf_7 : List UInt8 := dkwX1_resultOf_7 ++ dktX1_resultOf_8
def dkwX1_resultOf_6 : List UInt8 := [185, 0, 70, 1, 0, 162, 0, 96, 42, 180, 0, 19, 180, 0, 85, 21, 5, 185, 0, 91, 2, 0]
abbrev dktX1_resultOf_6 : List UInt8 := dkwX1_resultOf_6 ++ dktX1_resultOf_7
def dkwX1_resultOf_5 : List UInt8 := [167, 255, 198, 132, 5, 1, 167, 255, 146, 3, 54, 5, 21, 5, 42, 180, 0, 19, 180, 0, 85]
abbrev dktX1_resultOf_5 : List UInt8 := dkwX1_resultOf_5 ++ dktX1_resultOf_6
def dkwX1_resultOf_4 : List UInt8 := [100, 184, 1, 56, 79, 167, 0, 16, 58, 9, 45, 180, 0, 196, 21, 5, 50, 21, 8, 3, 79, 132, 8, 1]
abbrev dktX1_resultOf_4 : List UInt8 := dkwX1_resultOf_4 ++ dktX1_resultOf_5
def dkwX1_resultOf_3 : List UInt8 := [21, 5, 50, 21, 8, 3, 42, 42, 27, 44, 21, 5, 21, 8, 182, 1, 49, 25, 4, 182, 1, 53, 21, 7]
abbrev dktX1_resultOf_3 : List UInt8 := dkwX1_resultOf_3 ++ dktX1_resultOf_4
def dkwX1_resultOf_2 : List UInt8 := [45, 89, 180, 0, 121, 21, 7, 96, 181, 0, 121, 3, 54, 8, 21, 8, 6, 162, 0, 58, 45, 180, 0, 196]
abbrev dktX1_resultOf_2 : List UInt8 := dkwX1_resultOf_2 ++ dktX1_resultOf_3
def dkwX1_resultOf_1 : List UInt8 := [44, 21, 5, 2, 182, 1, 49, 58, 6, 42, 25, 6, 45, 180, 0, 200, 21, 5, 50, 182, 1, 53, 54, 7]
abbrev dktX1_resultOf_1 : List UInt8 := dkwX1_resultOf_1 ++ dktX1_resultOf_2
def dkwX1_resultOf_0 : List UInt8 := [187, 0, 122, 89, 183, 1, 48, 78, 6, 188, 10, 58, 4, 3, 54, 5, 21, 5, 7, 162, 0, 110, 42, 27]
abbrev dktX1_resultOf_0 : List UInt8 := dkwX1_resultOf_0 ++ dktX1_resultOf_1
theorem dksX1_resultOf_0 : cX1_resultOf.data.toList.drop 0 = dktX1_resultOf_0 := by decide +kernel
theorem dksX1_resultOf_1 : cX1_resultOf.data.toList.drop 24 = dktX1_resultOf_1 := dk_seg dksX1_resultOf_0 24 rfl rfl
theorem dksX1_resultOf_2 : cX1_resultOf.data.toList.drop 48 = dktX1_resultOf_2 := dk_seg dksX1_resultOf_1 24 rfl rfl
theorem dksX1_resultOf_3 : cX1_resultOf.data.toList.drop 72 = dktX1_resultOf_3 := dk_seg dksX1_resultOf_2 24 rfl rfl
theorem dksX1_resultOf_4 : cX1_resultOf.data.toList.drop 96 = dktX1_resultOf_4 := dk_seg dksX1_resultOf_3 24 rfl rfl
theorem dksX1_resultOf_5 : cX1_resultOf.data.toList.drop 120 = dktX1_resultOf_5 := dk_seg dksX1_resultOf_4 24 rfl rfl
theorem dksX1_resultOf_6 : cX1_resultOf.data.toList.drop 141 = dktX1_resultOf_6 := dk_seg dksX1_resultOf_5 21 rfl rfl
theorem dksX1_resultOf_7 : cX1_resultOf.data.toList.drop 163 = dktX1_resultOf_7 := dk_seg dksX1_resultOf_6 22 rfl rfl
theorem dksX1_resultOf_8 : cX1_resultOf.data.toList.drop 187 = dktX1_resultOf_8 := dk_seg dksX1_resultOf_7 24 rfl rfl
theorem dksX1_resultOf_9 : cX1_resultOf.data.toList.drop 209 = dktX1_resultOf_9 := dk_seg dksX1_resultOf_8 22 rfl rfl
theorem dksX1_resultOf_10 : cX1_resultOf.data.toList.drop 233 = dktX1_resultOf_10 := dk_seg dksX1_resultOf_9 24 rfl rfl
theorem dX1_resultOf_0 : decode cX1_resultOf 0 = .ok (.new 122, 3) := dk_187 0 122 (dk_at dksX1_resultOf_0 0 rfl rfl)
theorem dX1_resultOf_3 : decode cX1_resultOf 3 = .ok (.dup, 1) := dk_89 (dk_at dksX1_resultOf_0 3 rfl rfl)
theorem dX1_resultOf_4 : decode cX1_resultOf 4 = .ok (.invokespecial 304, 3) := dk_183 1 48 (dk_at dksX1_resultOf_0 4 rfl rfl)
theorem dX1_resultOf_7 : decode cX1_resultOf 7 = .ok (.astore_n 3, 1) := dk_78 (dk_at dksX1_resultOf_0 7 rfl rfl)
theorem dX1_resultOf_8 : decode cX1_resultOf 8 = .ok (.iconst 3, 1) := dk_6 (dk_at dksX1_resultOf_0 8 rfl rfl)
theorem dX1_resultOf_9 : decode cX1_resultOf 9 = .ok (.newarray .int, 2) := dk_188_10 (dk_at dksX1_resultOf_0 9 rfl rfl)
theorem dX1_resultOf_11 : decode cX1_resultOf 11 = .ok (.astore 4, 2) := dk_58 4 (dk_at dksX1_resultOf_0 11 rfl rfl)
theorem dX1_resultOf_13 : decode cX1_resultOf 13 = .ok (.iconst 0, 1) := dk_3 (dk_at dksX1_resultOf_0 13 rfl rfl)
theorem dX1_resultOf_14 : decode cX1_resultOf 14 = .ok (.istore 5, 2) := dk_54 5 (dk_at dksX1_resultOf_0 14 rfl rfl)
theorem dX1_resultOf_16 : decode cX1_resultOf 16 = .ok (.iload 5, 2) := dk_21 5 (dk_at dksX1_resultOf_0 16 rfl rfl)
theorem dX1_resultOf_18 : decode cX1_resultOf 18 = .ok (.iconst 4, 1) := dk_7 (dk_at dksX1_resultOf_0 18 rfl rfl)
theorem dX1_resultOf_19 : decode cX1_resultOf 19 = .ok (.if_icmp .ge 110, 3) := dk_162 0 110 (dk_at dksX1_resultOf_0 19 rfl rfl)
theorem dX1_resultOf_22 : decode cX1_resultOf 22 = .ok (.aload_n 0, 1) := dk_42 (dk_at dksX1_resultOf_0 22 rfl rfl)
theorem dX1_resultOf_23 : decode cX1_resultOf 23 = .ok (.iload_n 1, 1) := dk_27 (dk_at dksX1_resultOf_0 23 rfl rfl)
theorem dX1_resultOf_24 : decode cX1_resultOf 24 = .ok (.aload_n 2, 1) := dk_44 (dk_at dksX1_resultOf_1 0 rfl rfl)
theorem dX1_resultOf_25 : decode cX1_resultOf 25 = .ok (.iload 5, 2) := dk_21 5 (dk_at dksX1_resultOf_1 1 rfl rfl)
theorem dX1_resultOf_27 : decode cX1_resultOf 27 = .ok (.iconst (-1), 1) := dk_2 (dk_at dksX1_resultOf_1 3 rfl rfl)
theorem dX1_resultOf_28 : decode cX1_resultOf 28 = .ok (.invokevirtual 305, 3) := dk_182 1 49 (dk_at dksX1_resultOf_1 4 rfl rfl)
theorem dX1_resultOf_31 : decode cX1_resultOf 31 = .ok (.astore 6, 2) := dk_58 6 (dk_at dksX1_resultOf_1 7 rfl rfl)
theorem dX1_resultOf_33 : decode cX1_resultOf 33 = .ok (.aload_n 0, 1) := dk_42 (dk_at dksX1_resultOf_1 9 rfl rfl)
theorem dX1_resultOf_34 : decode cX1_resultOf 34 = .ok (.aload 6, 2) := dk_25 6 (dk_at dksX1_resultOf_1 10 rfl rfl)
theorem dX1_resultOf_36 : decode cX1_resultOf 36 = .ok (.aload_n 3, 1) := dk_45 (dk_at dksX1_resultOf_1 12 rfl rfl)
theorem dX1_resultOf_37 : decode cX1_resultOf 37 = .ok (.getfield 200, 3) := dk_180 0 200 (dk_at dksX1_resultOf_1 13 rfl rfl)
theorem dX1_resultOf_40 : decode cX1_resultOf 40 = .ok (.iload 5, 2) := dk_21 5 (dk_at dksX1_resultOf_1 16 rfl rfl)
theorem dX1_resultOf_42 : decode cX1_resultOf 42 = .ok (.aaload, 1) := dk_50 (dk_at dksX1_resultOf_1 18 rfl rfl)
theorem dX1_resultOf_43 : decode cX1_resultOf 43 = .ok (.invokevirtual 309, 3) := dk_182 1 53 (dk_at dksX1_resultOf_1 19 rfl rfl)
theorem dX1_resultOf_46 : decode cX1_resultOf 46 = .ok (.istore 7, 2) := dk_54 7 (dk_at dksX1_resultOf_1 22 rfl rfl)
theorem dX1_resultOf_48 : decode cX1_resultOf 48 = .ok (.aload_n 3, 1) := dk_45 (dk_at dksX1_resultOf_2 0 rfl rfl)
theorem dX1_resultOf_49 : decode cX1_resultOf 49 = .ok (.dup, 1) := dk_89 (dk_at dksX1_resultOf_2 1 rfl rfl)
theorem dX1_resultOf_50 : decode cX1_resultOf 50 = .ok (.getfield 121, 3) := dk_180 0 121 (dk_at dksX1_resultOf_2 2 rfl rfl)
theorem dX1_resultOf_53 : decode cX1_resultOf 53 = .ok (.iload 7, 2) := dk_21 7 (dk_at dksX1_resultOf_2 5 rfl rfl)
theorem dX1_resultOf_55 : decode cX1_resultOf 55 = .ok (.iadd, 1) := dk_96 (dk_at dksX1_resultOf_2 7 rfl rfl)
theorem dX1_resultOf_56 : decode cX1_resultOf 56 = .ok (.putfield 121, 3) := dk_181 0 121 (dk_at dksX1_resultOf_2 8 rfl rfl)
theorem dX1_resultOf_59 : decode cX1_resultOf 59 = .ok (.iconst 0, 1) := dk_3 (dk_at dksX1_resultOf_2 11 rfl rfl)
theorem dX1_resultOf_60 : decode cX1_resultOf 60 = .ok (.istore 8, 2) := dk_54 8 (dk_at dksX1_resultOf_2 12 rfl rfl)
theorem dX1_resultOf_62 : decode cX1_resultOf 62 = .ok (.iload 8, 2) := dk_21 8 (dk_at dksX1_resultOf_2 14 rfl rfl)
theorem dX1_resultOf_64 : decode cX1_resultOf 64 = .ok (.iconst 3, 1) := dk_6 (dk_at dksX1_resultOf_2 16 rfl rfl)
theorem dX1_resultOf_65 : decode cX1_resultOf 65 = .ok (.if_icmp .ge 58, 3) := dk_162 0 58 (dk_at dksX1_resultOf_2 17 rfl rfl)
theorem dX1_resultOf_68 : decode cX1_resultOf 68 = .ok (.aload_n 3, 1) := dk_45 (dk_at dksX1_resultOf_2 20 rfl rfl)
theorem dX1_resultOf_69 : decode cX1_resultOf 69 = .ok (.getfield 196, 3) := dk_180 0 196 (dk_at dksX1_resultOf_2 21 rfl rfl)
theorem dX1_resultOf_72 : decode cX1_resultOf 72 = .ok (.iload 5, 2) := dk_21 5 (dk_at dksX1_resultOf_3 0 rfl rfl)
theorem dX1_resultOf_74 : decode cX1_resultOf 74 = .ok (.aaload, 1) := dk_50 (dk_at dksX1_resultOf_3 2 rfl rfl)
theorem dX1_resultOf_75 : decode cX1_resultOf 75 = .ok (.iload 8, 2) := dk_21 8 (dk_at dksX1_resultOf_3 3 rfl rfl)
theorem dX1_resultOf_77 : decode cX1_resultOf 77 = .ok (.iconst 0, 1) := dk_3 (dk_at dksX1_resultOf_3 5 rfl rfl)
theorem dX1_resultOf_78 : decode cX1_resultOf 78 = .ok (.aload_n 0, 1) := dk_42 (dk_at dksX1_resultOf_3 6 rfl rfl)
theorem dX1_resultOf_79 : decode cX1_resultOf 79 = .ok (.aload_n 0, 1) := dk_42 (dk_at dksX1_resultOf_3 7 rfl rfl)
theorem dX1_resultOf_80 : decode cX1_resultOf 80 = .ok (.iload_n 1, 1) := dk_27 (dk_at dksX1_resultOf_3 8 rfl rfl)
theorem dX1_resultOf_81 : decode cX1_resultOf 81 = .ok (.aload_n 2, 1) := dk_44 (dk_at dksX1_resultOf_3 9 rfl rfl)
theorem dX1_resultOf_82 : decode cX1_resultOf 82 = .ok (.iload 5, 2) := dk_21 5 (dk_at dksX1_resultOf_3 10 rfl rfl)
theorem dX1_resultOf_84 : decode cX1_resultOf 84 = .ok (.iload 8, 2) := dk_21 8 (dk_at dksX1_resultOf_3 12 rfl rfl)
theorem dX1_resultOf_86 : decode cX1_resultOf 86 = .ok (.invokevirtual 305, 3) := dk_182 1 49 (dk_at dksX1_resultOf_3 14 rfl rfl)
theorem dX1_resultOf_89 : decode cX1_resultOf 89 = .ok (.aload 4, 2) := dk_25 4 (dk_at dksX1_resultOf_3 17 rfl rfl)
theorem dX1_resultOf_91 : decode cX1_resultOf 91 = .ok (.invokevirtual 309, 3) := dk_182 1 53 (dk_at dksX1_resultOf_3 19 rfl rfl)
theorem dX1_resultOf_94 : decode cX1_resultOf 94 = .ok (.iload 7, 2) := dk_21 7 (dk_at dksX1_resultOf_3 22 rfl rfl)
theorem dX1_resultOf_96 : decode cX1_resultOf 96 = .ok (.isub, 1) := dk_100 (dk_at dksX1_resultOf_4 0 rfl rfl)
theorem dX1_resultOf_97 : decode cX1_resultOf 97 = .ok (.invokestatic 312, 3) := dk_184 1 56 (dk_at dksX1_resultOf_4 1 rfl rfl)
theorem dX1_resultOf_100 : decode cX1_resultOf 100 = .ok (.iastore, 1) := dk_79 (dk_at dksX1_resultOf_4 4 rfl rfl)
theorem dX1_resultOf_101 : decode cX1_resultOf 101 = .ok (.goto 16, 3) := dk_167 0 16 (dk_at dksX1_resultOf_4 5 rfl rfl)
theorem dX1_resultOf_104 : decode cX1_resultOf 104 = .ok (.astore 9, 2) := dk_58 9 (dk_at dksX1_resultOf_4 8 rfl rfl)
theorem dX1_resultOf_106 : decode cX1_resultOf 106 = .ok (.aload_n 3, 1) := dk_45 (dk_at dksX1_resultOf_4 10 rfl rfl)
theorem dX1_resultOf_107 : decode cX1_resultOf 107 = .ok (.getfield 196, 3) := dk_180 0 196 (dk_at dksX1_resultOf_4 11 rfl rfl)
theorem dX1_resultOf_110 : decode cX1_resultOf 110 = .ok (.iload 5, 2) := dk_21 5 (dk_at dksX1_resultOf_4 14 rfl rfl)
theorem dX1_resultOf_112 : decode cX1_resultOf 112 = .ok (.aaload, 1) := dk_50 (dk_at dksX1_resultOf_4 16 rfl rfl)
theorem dX1_resultOf_113 : decode cX1_resultOf 113 = .ok (.iload 8, 2) := dk_21 8 (dk_at dksX1_resultOf_4 17 rfl rfl)
theorem dX1_resultOf_115 : decode cX1_resultOf 115 = .ok (.iconst 0, 1) := dk_3 (dk_at dksX1_resultOf_4 19 rfl rfl)
theorem dX1_resultOf_116 : decode cX1_resultOf 116 = .ok (.iastore, 1) := dk_79 (dk_at dksX1_resultOf_4 20 rfl rfl)
theorem dX1_resultOf_117 : decode cX1_resultOf 117 = .ok (.iinc 8 1, 3) := dk_132 8 1 (dk_at dksX1_resultOf_4 21 rfl rfl)
theorem dX1_resultOf_120 : decode cX1_resultOf 120 = .ok (.goto (-58), 3) := dk_167 255 198 (dk_at dksX1_resultOf_5 0 rfl rfl)
theorem dX1_resultOf_123 : decode cX1_resultOf 123 = .ok (.iinc 5 1, 3) := dk_132 5 1 (dk_at dksX1_resultOf_5 3 rfl rfl)
theorem dX1_resultOf_126 : decode cX1_resultOf 126 = .ok (.goto (-110), 3) := dk_167 255 146 (dk_at dksX1_resultOf_5 6 rfl rfl)
theorem dX1_resultOf_129 : decode cX1_resultOf 129 = .ok (.iconst 0, 1) := dk_3 (dk_at dksX1_resultOf_5 9 rfl rfl)
theorem dX1_resultOf_130 : decode cX1_resultOf 130 = .ok (.istore 5, 2) := dk_54 5 (dk_at dksX1_resultOf_5 10 rfl rfl)
theorem dX1_resultOf_132 : decode cX1_resultOf 132 = .ok (.iload 5, 2) := dk_21 5 (dk_at dksX1_resultOf_5 12 rfl rfl)
theorem dX1_resultOf_134 : decode cX1_resultOf 134 = .ok (.aload_n 0, 1) := dk_42 (dk_at dksX1_resultOf_5 14 rfl rfl)
theorem dX1_resultOf_135 : decode cX1_resultOf 135 = .ok (.getfield 19, 3) := dk_180 0 19 (dk_at dksX1_resultOf_5 15 rfl rfl)
theorem dX1_resultOf_138 : decode cX1_resultOf 138 = .ok (.getfield 85, 3) := dk_180 0 85 (dk_at dksX1_resultOf_5 18 rfl rfl)
theorem dX1_resultOf_141 : decode cX1_resultOf 141 = .ok (.invokeinterface 70 1, 5) := by decide +kernel
theorem dX1_resultOf_146 : decode cX1_resultOf 146 = .ok (.if_icmp .ge 96, 3) := dk_162 0 96 (dk_at dksX1_resultOf_6 5 rfl rfl)
theorem dX1_resultOf_149 : decode cX1_resultOf 149 = .ok (.aload_n 0, 1) := dk_42 (dk_at dksX1_resultOf_6 8 rfl rfl)
theorem dX1_resultOf_150 : decode cX1_resultOf 150 = .ok (.getfield 19, 3) := dk_180 0 19 (dk_at dksX1_resultOf_6 9 rfl rfl)
theorem dX1_resultOf_153 : decode cX1_resultOf 153 = .ok (.getfield 85, 3) := dk_180 0 85 (dk_at dksX1_resultOf_6 12 rfl rfl)
theorem dX1_resultOf_156 : decode cX1_resultOf 156 = .ok (.iload 5, 2) := dk_21 5 (dk_at dksX1_resultOf_6 15 rfl rfl)
theorem dX1_resultOf_158 : decode cX1_resultOf 158 = .ok (.invokeinterface 91 2, 5) := by decide +kernel
theorem dX1_resultOf_163 : decode cX1_resultOf 163 = .ok (.checkcast 88, 3) := dk_192 0 88 (dk_at dksX1_resultOf_7 0 rfl rfl)
theorem dX1_resultOf_166 : decode cX1_resultOf 166 = .ok (.astore 6, 2) := dk_58 6 (dk_at dksX1_resultOf_7 3 rfl rfl)
theorem dX1_resultOf_168 : decode cX1_resultOf 168 = .ok (.iload_n 1, 1) := dk_27 (dk_at dksX1_resultOf_7 5 rfl rfl)
theorem dX1_resultOf_169 : decode cX1_resultOf 169 = .ok (.iload 5, 2) := dk_21 5 (dk_at dksX1_resultOf_7 6 rfl rfl)
theorem dX1_resultOf_171 : decode cX1_resultOf 171 = .ok (.ishr, 1) := dk_122 (dk_at dksX1_resultOf_7 8 rfl rfl)
theorem dX1_resultOf_172 : decode cX1_resultOf 172 = .ok (.iconst 1, 1) := dk_4 (dk_at dksX1_resultOf_7 9 rfl rfl)
theorem dX1_resultOf_173 : decode cX1_resultOf 173 = .ok (.iand, 1) := dk_126 (dk_at dksX1_resultOf_7 10 rfl rfl)
theorem dX1_resultOf_174 : decode cX1_resultOf 174 = .ok (.iconst 1, 1) := dk_4 (dk_at dksX1_resultOf_7 11 rfl rfl)
theorem dX1_resultOf_175 : decode cX1_resultOf 175 = .ok (.if_icmp .ne 7, 3) := dk_160 0 7 (dk_at dksX1_resultOf_7 12 rfl rfl)
theorem dX1_resultOf_178 : decode cX1_resultOf 178 = .ok (.iconst 1, 1) := dk_4 (dk_at dksX1_resultOf_7 15 rfl rfl)
theorem dX1_resultOf_179 : decode cX1_resultOf 179 = .ok (.goto 4, 3) := dk_167 0 4 (dk_at dksX1_resultOf_7 16 rfl rfl)
theorem dX1_resultOf_182 : decode cX1_resultOf 182 = .ok (.iconst 0, 1) := dk_3 (dk_at dksX1_resultOf_7 19 rfl rfl)
theorem dX1_resultOf_183 : decode cX1_resultOf 183 = .ok (.istore 7, 2) := dk_54 7 (dk_at dksX1_resultOf_7 20 rfl rfl)
theorem dX1_resultOf_185 : decode cX1_resultOf 185 = .ok (.iload 7, 2) := dk_21 7 (dk_at dksX1_resultOf_7 22 rfl rfl)
theorem dX1_resultOf_187 : decode cX1_resultOf 187 = .ok (.ifCond .eq 26, 3) := dk_153 0 26 (dk_at dksX1_resultOf_8 0 rfl rfl)
theorem dX1_resultOf_190 : decode cX1_resultOf 190 = .ok (.aload 6, 2) := dk_25 6 (dk_at dksX1_resultOf_8 3 rfl rfl)
theorem dX1_resultOf_192 : decode cX1_resultOf 192 = .ok (.aload_n 3, 1) := dk_45 (dk_at dksX1_resultOf_8 5 rfl rfl)
theorem dX1_resultOf_193 : decode cX1_resultOf 193 = .ok (.getfield 196, 3) := dk_180 0 196 (dk_at dksX1_resultOf_8 6 rfl rfl)
theorem dX1_resultOf_196 : decode cX1_resultOf 196 = .ok (.invokevirtual 214, 3) := dk_182 0 214 (dk_at dksX1_resultOf_8 9 rfl rfl)
theorem dX1_resultOf_199 : decode cX1_resultOf 199 = .ok (.ifCond .ge 14, 3) := dk_156 0 14 (dk_at dksX1_resultOf_8 12 rfl rfl)
theorem dX1_resultOf_202 : decode cX1_resultOf 202 = .ok (.new 126, 3) := dk_187 0 126 (dk_at dksX1_resultOf_8 15 rfl rfl)
theorem dX1_resultOf_205 : decode cX1_resultOf 205 = .ok (.dup, 1) := dk_89 (dk_at dksX1_resultOf_8 18 rfl rfl)
theorem dX1_resultOf_206 : decode cX1_resultOf 206 = .ok (.ldc_w 316, 3) := dk_19 1 60 (dk_at dksX1_resultOf_8 19 rfl rfl)
theorem dX1_resultOf_209 : decode cX1_resultOf 209 = .ok (.invokespecial 289, 3) := dk_183 1 33 (dk_at dksX1_resultOf_9 0 rfl rfl)
theorem dX1_resultOf_212 : decode cX1_resultOf 212 = .ok (.athrow, 1) := dk_191 (dk_at dksX1_resultOf_9 3 rfl rfl)
theorem dX1_resultOf_213 : decode cX1_resultOf 213 = .ok (.aload_n 3, 1) := dk_45 (dk_at dksX1_resultOf_9 4 rfl rfl)
theorem dX1_resultOf_214 : decode cX1_resultOf 214 = .ok (.dup, 1) := dk_89 (dk_at dksX1_resultOf_9 5 rfl rfl)
theorem dX1_resultOf_215 : decode cX1_resultOf 215 = .ok (.getfield 121, 3) := dk_180 0 121 (dk_at dksX1_resultOf_9 6 rfl rfl)
theorem dX1_resultOf_218 : decode cX1_resultOf 218 = .ok (.iload 7, 2) := dk_21 7 (dk_at dksX1_resultOf_9 9 rfl rfl)
theorem dX1_resultOf_220 : decode cX1_resultOf 220 = .ok (.ifCond .eq 11, 3) := dk_153 0 11 (dk_at dksX1_resultOf_9 11 rfl rfl)
theorem dX1_resultOf_223 : decode cX1_resultOf 223 = .ok (.aload 6, 2) := dk_25 6 (dk_at dksX1_resultOf_9 14 rfl rfl)
theorem dX1_resultOf_225 : decode cX1_resultOf 225 = .ok (.invokevirtual 238, 3) := dk_182 0 238 (dk_at dksX1_resultOf_9 16 rfl rfl)
theorem dX1_resultOf_228 : decode cX1_resultOf 228 = .ok (.goto 4, 3) := dk_167 0 4 (dk_at dksX1_resultOf_9 19 rfl rfl)
theorem dX1_resultOf_231 : decode cX1_resultOf 231 = .ok (.iconst 0, 1) := dk_3 (dk_at dksX1_resultOf_9 22 rfl rfl)
theorem dX1_resultOf_232 : decode cX1_resultOf 232 = .ok (.iadd, 1) := dk_96 (dk_at dksX1_resultOf_9 23 rfl rfl)
theorem dX1_resultOf_233 : decode cX1_resultOf 233 = .ok (.putfield 121, 3) := dk_181 0 121 (dk_at dksX1_resultOf_10 0 rfl rfl)
theorem dX1_resultOf_236 : decode cX1_resultOf 236 = .ok (.iinc 5 1, 3) := dk_132 5 1 (dk_at dksX1_resultOf_10 3 rfl rfl)
theorem dX1_resultOf_239 : decode cX1_resultOf 239 = .ok (.goto (-107), 3) := dk_167 255 149 (dk_at dksX1_resultOf_10 6 rfl rfl)
theorem dX1_resultOf_242 : decode cX1_resultOf 242 = .ok (.aload_n 3, 1) := dk_45 (dk_at dksX1_resultOf_10 9 rfl rfl)
theorem dX1_resultOf_243 : decode cX1_resultOf 243 = .ok (.areturn, 1) := dk_176 (dk_at dksX1_resultOf_10 10 rfl rfl)
abbrev cX1_worths : ByteArray := prog_1_method_50_code
def yX1_worths : MethodName := ⟨RX1, "worths", "(I[[LGridMarket$Curve;II)[LGridMarket$Worth;"⟩
def dkwX1_worths_2 : List UInt8 := [25, 5, 21, 6, 25, 8, 21, 7, 186, 1, 65, 0, 0, 83, 132, 6, 1, 167, 255, 202, 25, 5, 176]
abbrev dktX1_worths_2 : List UInt8 := dkwX1_worths_2 ++ []
def dkwX1_worths_1 : List UInt8 := [21, 6, 21, 4, 160, 0, 7, 4, 167, 0, 4, 3, 96, 54, 7, 44, 29, 50, 21, 6, 50, 58, 8]
abbrev dktX1_worths_1 : List UInt8 := dkwX1_worths_1 ++ dktX1_worths_2
def dkwX1_worths_0 : List UInt8 := [6, 189, 1, 35, 58, 5, 3, 54, 6, 21, 6, 6, 162, 0, 54, 42, 27, 21, 6, 29, 182, 1, 62]
abbrev dktX1_worths_0 : List UInt8 := dkwX1_worths_0 ++ dktX1_worths_1
theorem dksX1_worths_0 : cX1_worths.data.toList.drop 0 = dktX1_worths_0 := by decide +kernel
theorem dksX1_worths_1 : cX1_worths.data.toList.drop 23 = dktX1_worths_1 := dk_seg dksX1_worths_0 23 rfl rfl
theorem dksX1_worths_2 : cX1_worths.data.toList.drop 46 = dktX1_worths_2 := dk_seg dksX1_worths_1 23 rfl rfl
theorem dX1_worths_0 : decode cX1_worths 0 = .ok (.iconst 3, 1) := dk_6 (dk_at dksX1_worths_0 0 rfl rfl)
theorem dX1_worths_1 : decode cX1_worths 1 = .ok (.anewarray 291, 3) := dk_189 1 35 (dk_at dksX1_worths_0 1 rfl rfl)
theorem dX1_worths_4 : decode cX1_worths 4 = .ok (.astore 5, 2) := dk_58 5 (dk_at dksX1_worths_0 4 rfl rfl)
theorem dX1_worths_6 : decode cX1_worths 6 = .ok (.iconst 0, 1) := dk_3 (dk_at dksX1_worths_0 6 rfl rfl)
theorem dX1_worths_7 : decode cX1_worths 7 = .ok (.istore 6, 2) := dk_54 6 (dk_at dksX1_worths_0 7 rfl rfl)
theorem dX1_worths_9 : decode cX1_worths 9 = .ok (.iload 6, 2) := dk_21 6 (dk_at dksX1_worths_0 9 rfl rfl)
theorem dX1_worths_11 : decode cX1_worths 11 = .ok (.iconst 3, 1) := dk_6 (dk_at dksX1_worths_0 11 rfl rfl)
theorem dX1_worths_12 : decode cX1_worths 12 = .ok (.if_icmp .ge 54, 3) := dk_162 0 54 (dk_at dksX1_worths_0 12 rfl rfl)
theorem dX1_worths_15 : decode cX1_worths 15 = .ok (.aload_n 0, 1) := dk_42 (dk_at dksX1_worths_0 15 rfl rfl)
theorem dX1_worths_16 : decode cX1_worths 16 = .ok (.iload_n 1, 1) := dk_27 (dk_at dksX1_worths_0 16 rfl rfl)
theorem dX1_worths_17 : decode cX1_worths 17 = .ok (.iload 6, 2) := dk_21 6 (dk_at dksX1_worths_0 17 rfl rfl)
theorem dX1_worths_19 : decode cX1_worths 19 = .ok (.iload_n 3, 1) := dk_29 (dk_at dksX1_worths_0 19 rfl rfl)
theorem dX1_worths_20 : decode cX1_worths 20 = .ok (.invokevirtual 318, 3) := dk_182 1 62 (dk_at dksX1_worths_0 20 rfl rfl)
theorem dX1_worths_23 : decode cX1_worths 23 = .ok (.iload 6, 2) := dk_21 6 (dk_at dksX1_worths_1 0 rfl rfl)
theorem dX1_worths_25 : decode cX1_worths 25 = .ok (.iload 4, 2) := dk_21 4 (dk_at dksX1_worths_1 2 rfl rfl)
theorem dX1_worths_27 : decode cX1_worths 27 = .ok (.if_icmp .ne 7, 3) := dk_160 0 7 (dk_at dksX1_worths_1 4 rfl rfl)
theorem dX1_worths_30 : decode cX1_worths 30 = .ok (.iconst 1, 1) := dk_4 (dk_at dksX1_worths_1 7 rfl rfl)
theorem dX1_worths_31 : decode cX1_worths 31 = .ok (.goto 4, 3) := dk_167 0 4 (dk_at dksX1_worths_1 8 rfl rfl)
theorem dX1_worths_34 : decode cX1_worths 34 = .ok (.iconst 0, 1) := dk_3 (dk_at dksX1_worths_1 11 rfl rfl)
theorem dX1_worths_35 : decode cX1_worths 35 = .ok (.iadd, 1) := dk_96 (dk_at dksX1_worths_1 12 rfl rfl)
theorem dX1_worths_36 : decode cX1_worths 36 = .ok (.istore 7, 2) := dk_54 7 (dk_at dksX1_worths_1 13 rfl rfl)
theorem dX1_worths_38 : decode cX1_worths 38 = .ok (.aload_n 2, 1) := dk_44 (dk_at dksX1_worths_1 15 rfl rfl)
theorem dX1_worths_39 : decode cX1_worths 39 = .ok (.iload_n 3, 1) := dk_29 (dk_at dksX1_worths_1 16 rfl rfl)
theorem dX1_worths_40 : decode cX1_worths 40 = .ok (.aaload, 1) := dk_50 (dk_at dksX1_worths_1 17 rfl rfl)
theorem dX1_worths_41 : decode cX1_worths 41 = .ok (.iload 6, 2) := dk_21 6 (dk_at dksX1_worths_1 18 rfl rfl)
theorem dX1_worths_43 : decode cX1_worths 43 = .ok (.aaload, 1) := dk_50 (dk_at dksX1_worths_1 20 rfl rfl)
theorem dX1_worths_44 : decode cX1_worths 44 = .ok (.astore 8, 2) := dk_58 8 (dk_at dksX1_worths_1 21 rfl rfl)
theorem dX1_worths_46 : decode cX1_worths 46 = .ok (.aload 5, 2) := dk_25 5 (dk_at dksX1_worths_2 0 rfl rfl)
theorem dX1_worths_48 : decode cX1_worths 48 = .ok (.iload 6, 2) := dk_21 6 (dk_at dksX1_worths_2 2 rfl rfl)
theorem dX1_worths_50 : decode cX1_worths 50 = .ok (.aload 8, 2) := dk_25 8 (dk_at dksX1_worths_2 4 rfl rfl)
theorem dX1_worths_52 : decode cX1_worths 52 = .ok (.iload 7, 2) := dk_21 7 (dk_at dksX1_worths_2 6 rfl rfl)
theorem dX1_worths_54 : decode cX1_worths 54 = .ok (.invokedynamic 321, 5) := by decide +kernel
theorem dX1_worths_59 : decode cX1_worths 59 = .ok (.aastore, 1) := dk_83 (dk_at dksX1_worths_2 13 rfl rfl)
theorem dX1_worths_60 : decode cX1_worths 60 = .ok (.iinc 6 1, 3) := dk_132 6 1 (dk_at dksX1_worths_2 14 rfl rfl)
theorem dX1_worths_63 : decode cX1_worths 63 = .ok (.goto (-54), 3) := dk_167 255 202 (dk_at dksX1_worths_2 17 rfl rfl)
theorem dX1_worths_66 : decode cX1_worths 66 = .ok (.aload 5, 2) := dk_25 5 (dk_at dksX1_worths_2 20 rfl rfl)
theorem dX1_worths_68 : decode cX1_worths 68 = .ok (.areturn, 1) := dk_176 (dk_at dksX1_worths_2 22 rfl rfl)
abbrev cX1_made : ByteArray := prog_1_method_47_code
def yX1_made : MethodName := ⟨RX1, "made", "(III)I"⟩
def dkwX1_made_5 : List UInt8 := [167, 255, 146, 21, 4, 172]
abbrev dktX1_made_5 : List UInt8 := dkwX1_made_5 ++ []
def dkwX1_made_4 : List UInt8 := [153, 0, 12, 25, 6, 180, 1, 45, 116, 167, 0, 8, 25, 6, 180, 1, 45, 96, 54, 4, 132, 5, 1]
abbrev dktX1_made_4 : List UInt8 := dkwX1_made_4 ++ dktX1_made_5
def dkwX1_made_3 : List UInt8 := [167, 0, 4, 3, 54, 7, 21, 4, 21, 7, 154, 0, 7, 3, 167, 0, 25, 25, 6, 180, 1, 44]
abbrev dktX1_made_3 : List UInt8 := dkwX1_made_3 ++ dktX1_made_4
def dkwX1_made_2 : List UInt8 := [4, 160, 0, 25, 25, 6, 180, 1, 39, 28, 160, 0, 16, 25, 6, 29, 182, 1, 42, 153, 0, 7, 4]
abbrev dktX1_made_2 : List UInt8 := dkwX1_made_2 ++ dktX1_made_3
def dkwX1_made_1 : List UInt8 := [180, 0, 19, 180, 0, 85, 21, 5, 185, 0, 91, 2, 0, 192, 0, 88, 58, 6, 27, 21, 5, 122, 4, 126]
abbrev dktX1_made_1 : List UInt8 := dkwX1_made_1 ++ dktX1_made_2
def dkwX1_made_0 : List UInt8 := [3, 54, 4, 3, 54, 5, 21, 5, 42, 180, 0, 19, 180, 0, 85, 185, 0, 70, 1, 0, 162, 0, 99, 42]
abbrev dktX1_made_0 : List UInt8 := dkwX1_made_0 ++ dktX1_made_1
theorem dksX1_made_0 : cX1_made.data.toList.drop 0 = dktX1_made_0 := by decide +kernel
theorem dksX1_made_1 : cX1_made.data.toList.drop 24 = dktX1_made_1 := dk_seg dksX1_made_0 24 rfl rfl
theorem dksX1_made_2 : cX1_made.data.toList.drop 48 = dktX1_made_2 := dk_seg dksX1_made_1 24 rfl rfl
theorem dksX1_made_3 : cX1_made.data.toList.drop 71 = dktX1_made_3 := dk_seg dksX1_made_2 23 rfl rfl
theorem dksX1_made_4 : cX1_made.data.toList.drop 93 = dktX1_made_4 := dk_seg dksX1_made_3 22 rfl rfl
theorem dksX1_made_5 : cX1_made.data.toList.drop 116 = dktX1_made_5 := dk_seg dksX1_made_4 23 rfl rfl
theorem dX1_made_0 : decode cX1_made 0 = .ok (.iconst 0, 1) := dk_3 (dk_at dksX1_made_0 0 rfl rfl)
theorem dX1_made_1 : decode cX1_made 1 = .ok (.istore 4, 2) := dk_54 4 (dk_at dksX1_made_0 1 rfl rfl)
theorem dX1_made_3 : decode cX1_made 3 = .ok (.iconst 0, 1) := dk_3 (dk_at dksX1_made_0 3 rfl rfl)
theorem dX1_made_4 : decode cX1_made 4 = .ok (.istore 5, 2) := dk_54 5 (dk_at dksX1_made_0 4 rfl rfl)
theorem dX1_made_6 : decode cX1_made 6 = .ok (.iload 5, 2) := dk_21 5 (dk_at dksX1_made_0 6 rfl rfl)
theorem dX1_made_8 : decode cX1_made 8 = .ok (.aload_n 0, 1) := dk_42 (dk_at dksX1_made_0 8 rfl rfl)
theorem dX1_made_9 : decode cX1_made 9 = .ok (.getfield 19, 3) := dk_180 0 19 (dk_at dksX1_made_0 9 rfl rfl)
theorem dX1_made_12 : decode cX1_made 12 = .ok (.getfield 85, 3) := dk_180 0 85 (dk_at dksX1_made_0 12 rfl rfl)
theorem dX1_made_15 : decode cX1_made 15 = .ok (.invokeinterface 70 1, 5) := by decide +kernel
theorem dX1_made_20 : decode cX1_made 20 = .ok (.if_icmp .ge 99, 3) := dk_162 0 99 (dk_at dksX1_made_0 20 rfl rfl)
theorem dX1_made_23 : decode cX1_made 23 = .ok (.aload_n 0, 1) := dk_42 (dk_at dksX1_made_0 23 rfl rfl)
theorem dX1_made_24 : decode cX1_made 24 = .ok (.getfield 19, 3) := dk_180 0 19 (dk_at dksX1_made_1 0 rfl rfl)
theorem dX1_made_27 : decode cX1_made 27 = .ok (.getfield 85, 3) := dk_180 0 85 (dk_at dksX1_made_1 3 rfl rfl)
theorem dX1_made_30 : decode cX1_made 30 = .ok (.iload 5, 2) := dk_21 5 (dk_at dksX1_made_1 6 rfl rfl)
theorem dX1_made_32 : decode cX1_made 32 = .ok (.invokeinterface 91 2, 5) := by decide +kernel
theorem dX1_made_37 : decode cX1_made 37 = .ok (.checkcast 88, 3) := dk_192 0 88 (dk_at dksX1_made_1 13 rfl rfl)
theorem dX1_made_40 : decode cX1_made 40 = .ok (.astore 6, 2) := dk_58 6 (dk_at dksX1_made_1 16 rfl rfl)
theorem dX1_made_42 : decode cX1_made 42 = .ok (.iload_n 1, 1) := dk_27 (dk_at dksX1_made_1 18 rfl rfl)
theorem dX1_made_43 : decode cX1_made 43 = .ok (.iload 5, 2) := dk_21 5 (dk_at dksX1_made_1 19 rfl rfl)
theorem dX1_made_45 : decode cX1_made 45 = .ok (.ishr, 1) := dk_122 (dk_at dksX1_made_1 21 rfl rfl)
theorem dX1_made_46 : decode cX1_made 46 = .ok (.iconst 1, 1) := dk_4 (dk_at dksX1_made_1 22 rfl rfl)
theorem dX1_made_47 : decode cX1_made 47 = .ok (.iand, 1) := dk_126 (dk_at dksX1_made_1 23 rfl rfl)
theorem dX1_made_48 : decode cX1_made 48 = .ok (.iconst 1, 1) := dk_4 (dk_at dksX1_made_2 0 rfl rfl)
theorem dX1_made_49 : decode cX1_made 49 = .ok (.if_icmp .ne 25, 3) := dk_160 0 25 (dk_at dksX1_made_2 1 rfl rfl)
theorem dX1_made_52 : decode cX1_made 52 = .ok (.aload 6, 2) := dk_25 6 (dk_at dksX1_made_2 4 rfl rfl)
theorem dX1_made_54 : decode cX1_made 54 = .ok (.getfield 295, 3) := dk_180 1 39 (dk_at dksX1_made_2 6 rfl rfl)
theorem dX1_made_57 : decode cX1_made 57 = .ok (.iload_n 2, 1) := dk_28 (dk_at dksX1_made_2 9 rfl rfl)
theorem dX1_made_58 : decode cX1_made 58 = .ok (.if_icmp .ne 16, 3) := dk_160 0 16 (dk_at dksX1_made_2 10 rfl rfl)
theorem dX1_made_61 : decode cX1_made 61 = .ok (.aload 6, 2) := dk_25 6 (dk_at dksX1_made_2 13 rfl rfl)
theorem dX1_made_63 : decode cX1_made 63 = .ok (.iload_n 3, 1) := dk_29 (dk_at dksX1_made_2 15 rfl rfl)
theorem dX1_made_64 : decode cX1_made 64 = .ok (.invokevirtual 298, 3) := dk_182 1 42 (dk_at dksX1_made_2 16 rfl rfl)
theorem dX1_made_67 : decode cX1_made 67 = .ok (.ifCond .eq 7, 3) := dk_153 0 7 (dk_at dksX1_made_2 19 rfl rfl)
theorem dX1_made_70 : decode cX1_made 70 = .ok (.iconst 1, 1) := dk_4 (dk_at dksX1_made_2 22 rfl rfl)
theorem dX1_made_71 : decode cX1_made 71 = .ok (.goto 4, 3) := dk_167 0 4 (dk_at dksX1_made_3 0 rfl rfl)
theorem dX1_made_74 : decode cX1_made 74 = .ok (.iconst 0, 1) := dk_3 (dk_at dksX1_made_3 3 rfl rfl)
theorem dX1_made_75 : decode cX1_made 75 = .ok (.istore 7, 2) := dk_54 7 (dk_at dksX1_made_3 4 rfl rfl)
theorem dX1_made_77 : decode cX1_made 77 = .ok (.iload 4, 2) := dk_21 4 (dk_at dksX1_made_3 6 rfl rfl)
theorem dX1_made_79 : decode cX1_made 79 = .ok (.iload 7, 2) := dk_21 7 (dk_at dksX1_made_3 8 rfl rfl)
theorem dX1_made_81 : decode cX1_made 81 = .ok (.ifCond .ne 7, 3) := dk_154 0 7 (dk_at dksX1_made_3 10 rfl rfl)
theorem dX1_made_84 : decode cX1_made 84 = .ok (.iconst 0, 1) := dk_3 (dk_at dksX1_made_3 13 rfl rfl)
theorem dX1_made_85 : decode cX1_made 85 = .ok (.goto 25, 3) := dk_167 0 25 (dk_at dksX1_made_3 14 rfl rfl)
theorem dX1_made_88 : decode cX1_made 88 = .ok (.aload 6, 2) := dk_25 6 (dk_at dksX1_made_3 17 rfl rfl)
theorem dX1_made_90 : decode cX1_made 90 = .ok (.getfield 300, 3) := dk_180 1 44 (dk_at dksX1_made_3 19 rfl rfl)
theorem dX1_made_93 : decode cX1_made 93 = .ok (.ifCond .eq 12, 3) := dk_153 0 12 (dk_at dksX1_made_4 0 rfl rfl)
theorem dX1_made_96 : decode cX1_made 96 = .ok (.aload 6, 2) := dk_25 6 (dk_at dksX1_made_4 3 rfl rfl)
theorem dX1_made_98 : decode cX1_made 98 = .ok (.getfield 301, 3) := dk_180 1 45 (dk_at dksX1_made_4 5 rfl rfl)
theorem dX1_made_101 : decode cX1_made 101 = .ok (.ineg, 1) := dk_116 (dk_at dksX1_made_4 8 rfl rfl)
theorem dX1_made_102 : decode cX1_made 102 = .ok (.goto 8, 3) := dk_167 0 8 (dk_at dksX1_made_4 9 rfl rfl)
theorem dX1_made_105 : decode cX1_made 105 = .ok (.aload 6, 2) := dk_25 6 (dk_at dksX1_made_4 12 rfl rfl)
theorem dX1_made_107 : decode cX1_made 107 = .ok (.getfield 301, 3) := dk_180 1 45 (dk_at dksX1_made_4 14 rfl rfl)
theorem dX1_made_110 : decode cX1_made 110 = .ok (.iadd, 1) := dk_96 (dk_at dksX1_made_4 17 rfl rfl)
theorem dX1_made_111 : decode cX1_made 111 = .ok (.istore 4, 2) := dk_54 4 (dk_at dksX1_made_4 18 rfl rfl)
theorem dX1_made_113 : decode cX1_made 113 = .ok (.iinc 5 1, 3) := dk_132 5 1 (dk_at dksX1_made_4 20 rfl rfl)
theorem dX1_made_116 : decode cX1_made 116 = .ok (.goto (-110), 3) := dk_167 255 146 (dk_at dksX1_made_5 0 rfl rfl)
theorem dX1_made_119 : decode cX1_made 119 = .ok (.iload 4, 2) := dk_21 4 (dk_at dksX1_made_5 3 rfl rfl)
theorem dX1_made_121 : decode cX1_made 121 = .ok (.ireturn, 1) := dk_172 (dk_at dksX1_made_5 5 rfl rfl)
abbrev cX1_lambda_worths_0 : ByteArray := prog_1_method_64_code
def yX1_lambda_worths_0 : MethodName := ⟨RX1, "lambda$worths$0", "(LGridMarket$Curve;II)I"⟩
def dkwX1_lambda_worths_0_0 : List UInt8 := [42, 28, 27, 100, 182, 1, 161, 172]
abbrev dktX1_lambda_worths_0_0 : List UInt8 := dkwX1_lambda_worths_0_0 ++ []
theorem dksX1_lambda_worths_0_0 : cX1_lambda_worths_0.data.toList.drop 0 = dktX1_lambda_worths_0_0 := by decide +kernel
theorem dX1_lambda_worths_0_0 : decode cX1_lambda_worths_0 0 = .ok (.aload_n 0, 1) := dk_42 (dk_at dksX1_lambda_worths_0_0 0 rfl rfl)
theorem dX1_lambda_worths_0_1 : decode cX1_lambda_worths_0 1 = .ok (.iload_n 2, 1) := dk_28 (dk_at dksX1_lambda_worths_0_0 1 rfl rfl)
theorem dX1_lambda_worths_0_2 : decode cX1_lambda_worths_0 2 = .ok (.iload_n 1, 1) := dk_27 (dk_at dksX1_lambda_worths_0_0 2 rfl rfl)
theorem dX1_lambda_worths_0_3 : decode cX1_lambda_worths_0 3 = .ok (.isub, 1) := dk_100 (dk_at dksX1_lambda_worths_0_0 3 rfl rfl)
theorem dX1_lambda_worths_0_4 : decode cX1_lambda_worths_0 4 = .ok (.invokevirtual 417, 3) := dk_182 1 161 (dk_at dksX1_lambda_worths_0_0 4 rfl rfl)
theorem dX1_lambda_worths_0_7 : decode cX1_lambda_worths_0 7 = .ok (.ireturn, 1) := dk_172 (dk_at dksX1_lambda_worths_0_0 7 rfl rfl)
abbrev cX1_most : ByteArray := prog_1_method_45_code
def yX1_most : MethodName := ⟨RX1, "most", "([LGridMarket$Worth;[I)I"⟩
def dkwX1_most_7 : List UInt8 := [160, 0, 14, 187, 0, 126, 89, 19, 1, 31, 183, 1, 33, 191, 21, 4, 172]
abbrev dktX1_most_7 : List UInt8 := dkwX1_most_7 ++ []
def dkwX1_most_6 : List UInt8 := [44, 3, 6, 184, 1, 25, 132, 7, 1, 167, 255, 133, 132, 6, 1, 167, 255, 116, 21, 4, 19, 1, 16]
abbrev dktX1_most_6 : List UInt8 := dkwX1_most_6 ++ dktX1_most_7
def dkwX1_most_5 : List UInt8 := [21, 8, 21, 4, 160, 0, 26, 21, 9, 21, 5, 162, 0, 19, 21, 8, 54, 4, 21, 9, 54, 5, 45, 3]
abbrev dktX1_most_5 : List UInt8 := dkwX1_most_5 ++ dktX1_most_6
def dkwX1_most_4 : List UInt8 := [184, 0, 203, 184, 1, 11, 96, 54, 9, 21, 8, 19, 1, 16, 164, 0, 40, 21, 8, 21, 4, 163, 0, 17]
abbrev dktX1_most_4 : List UInt8 := dkwX1_most_4 ++ dktX1_most_5
def dkwX1_most_3 : List UInt8 := [19, 1, 16, 54, 8, 3, 45, 184, 0, 203, 184, 1, 11, 4, 45, 184, 0, 203, 184, 1, 11, 96, 5, 45]
abbrev dktX1_most_3 : List UInt8 := dkwX1_most_3 ++ dktX1_most_4
def dkwX1_most_2 : List UInt8 := [21, 6, 116, 21, 7, 100, 79, 42, 45, 182, 1, 17, 153, 0, 11, 43, 45, 184, 1, 21, 167, 0, 6]
abbrev dktX1_most_2 : List UInt8 := dkwX1_most_2 ++ dktX1_most_3
def dkwX1_most_1 : List UInt8 := [16, 236, 54, 7, 21, 7, 16, 20, 163, 0, 122, 45, 3, 21, 6, 79, 45, 4, 21, 7, 79, 45, 5]
abbrev dktX1_most_1 : List UInt8 := dkwX1_most_1 ++ dktX1_most_2
def dkwX1_most_0 : List UInt8 := [6, 188, 10, 78, 19, 1, 16, 54, 4, 3, 54, 5, 16, 236, 54, 6, 21, 6, 16, 20, 163, 0, 139]
abbrev dktX1_most_0 : List UInt8 := dkwX1_most_0 ++ dktX1_most_1
theorem dksX1_most_0 : cX1_most.data.toList.drop 0 = dktX1_most_0 := by decide +kernel
theorem dksX1_most_1 : cX1_most.data.toList.drop 23 = dktX1_most_1 := dk_seg dksX1_most_0 23 rfl rfl
theorem dksX1_most_2 : cX1_most.data.toList.drop 46 = dktX1_most_2 := dk_seg dksX1_most_1 23 rfl rfl
theorem dksX1_most_3 : cX1_most.data.toList.drop 69 = dktX1_most_3 := dk_seg dksX1_most_2 23 rfl rfl
theorem dksX1_most_4 : cX1_most.data.toList.drop 93 = dktX1_most_4 := dk_seg dksX1_most_3 24 rfl rfl
theorem dksX1_most_5 : cX1_most.data.toList.drop 117 = dktX1_most_5 := dk_seg dksX1_most_4 24 rfl rfl
theorem dksX1_most_6 : cX1_most.data.toList.drop 141 = dktX1_most_6 := dk_seg dksX1_most_5 24 rfl rfl
theorem dksX1_most_7 : cX1_most.data.toList.drop 164 = dktX1_most_7 := dk_seg dksX1_most_6 23 rfl rfl
theorem dX1_most_0 : decode cX1_most 0 = .ok (.iconst 3, 1) := dk_6 (dk_at dksX1_most_0 0 rfl rfl)
theorem dX1_most_1 : decode cX1_most 1 = .ok (.newarray .int, 2) := dk_188_10 (dk_at dksX1_most_0 1 rfl rfl)
theorem dX1_most_3 : decode cX1_most 3 = .ok (.astore_n 3, 1) := dk_78 (dk_at dksX1_most_0 3 rfl rfl)
theorem dX1_most_4 : decode cX1_most 4 = .ok (.ldc_w 272, 3) := dk_19 1 16 (dk_at dksX1_most_0 4 rfl rfl)
theorem dX1_most_7 : decode cX1_most 7 = .ok (.istore 4, 2) := dk_54 4 (dk_at dksX1_most_0 7 rfl rfl)
theorem dX1_most_9 : decode cX1_most 9 = .ok (.iconst 0, 1) := dk_3 (dk_at dksX1_most_0 9 rfl rfl)
theorem dX1_most_10 : decode cX1_most 10 = .ok (.istore 5, 2) := dk_54 5 (dk_at dksX1_most_0 10 rfl rfl)
theorem dX1_most_12 : decode cX1_most 12 = .ok (.bipush (-20), 2) := dk_16 236 (dk_at dksX1_most_0 12 rfl rfl)
theorem dX1_most_14 : decode cX1_most 14 = .ok (.istore 6, 2) := dk_54 6 (dk_at dksX1_most_0 14 rfl rfl)
theorem dX1_most_16 : decode cX1_most 16 = .ok (.iload 6, 2) := dk_21 6 (dk_at dksX1_most_0 16 rfl rfl)
theorem dX1_most_18 : decode cX1_most 18 = .ok (.bipush 20, 2) := dk_16 20 (dk_at dksX1_most_0 18 rfl rfl)
theorem dX1_most_20 : decode cX1_most 20 = .ok (.if_icmp .gt 139, 3) := dk_163 0 139 (dk_at dksX1_most_0 20 rfl rfl)
theorem dX1_most_23 : decode cX1_most 23 = .ok (.bipush (-20), 2) := dk_16 236 (dk_at dksX1_most_1 0 rfl rfl)
theorem dX1_most_25 : decode cX1_most 25 = .ok (.istore 7, 2) := dk_54 7 (dk_at dksX1_most_1 2 rfl rfl)
theorem dX1_most_27 : decode cX1_most 27 = .ok (.iload 7, 2) := dk_21 7 (dk_at dksX1_most_1 4 rfl rfl)
theorem dX1_most_29 : decode cX1_most 29 = .ok (.bipush 20, 2) := dk_16 20 (dk_at dksX1_most_1 6 rfl rfl)
theorem dX1_most_31 : decode cX1_most 31 = .ok (.if_icmp .gt 122, 3) := dk_163 0 122 (dk_at dksX1_most_1 8 rfl rfl)
theorem dX1_most_34 : decode cX1_most 34 = .ok (.aload_n 3, 1) := dk_45 (dk_at dksX1_most_1 11 rfl rfl)
theorem dX1_most_35 : decode cX1_most 35 = .ok (.iconst 0, 1) := dk_3 (dk_at dksX1_most_1 12 rfl rfl)
theorem dX1_most_36 : decode cX1_most 36 = .ok (.iload 6, 2) := dk_21 6 (dk_at dksX1_most_1 13 rfl rfl)
theorem dX1_most_38 : decode cX1_most 38 = .ok (.iastore, 1) := dk_79 (dk_at dksX1_most_1 15 rfl rfl)
theorem dX1_most_39 : decode cX1_most 39 = .ok (.aload_n 3, 1) := dk_45 (dk_at dksX1_most_1 16 rfl rfl)
theorem dX1_most_40 : decode cX1_most 40 = .ok (.iconst 1, 1) := dk_4 (dk_at dksX1_most_1 17 rfl rfl)
theorem dX1_most_41 : decode cX1_most 41 = .ok (.iload 7, 2) := dk_21 7 (dk_at dksX1_most_1 18 rfl rfl)
theorem dX1_most_43 : decode cX1_most 43 = .ok (.iastore, 1) := dk_79 (dk_at dksX1_most_1 20 rfl rfl)
theorem dX1_most_44 : decode cX1_most 44 = .ok (.aload_n 3, 1) := dk_45 (dk_at dksX1_most_1 21 rfl rfl)
theorem dX1_most_45 : decode cX1_most 45 = .ok (.iconst 2, 1) := dk_5 (dk_at dksX1_most_1 22 rfl rfl)
theorem dX1_most_46 : decode cX1_most 46 = .ok (.iload 6, 2) := dk_21 6 (dk_at dksX1_most_2 0 rfl rfl)
theorem dX1_most_48 : decode cX1_most 48 = .ok (.ineg, 1) := dk_116 (dk_at dksX1_most_2 2 rfl rfl)
theorem dX1_most_49 : decode cX1_most 49 = .ok (.iload 7, 2) := dk_21 7 (dk_at dksX1_most_2 3 rfl rfl)
theorem dX1_most_51 : decode cX1_most 51 = .ok (.isub, 1) := dk_100 (dk_at dksX1_most_2 5 rfl rfl)
theorem dX1_most_52 : decode cX1_most 52 = .ok (.iastore, 1) := dk_79 (dk_at dksX1_most_2 6 rfl rfl)
theorem dX1_most_53 : decode cX1_most 53 = .ok (.aload_n 0, 1) := dk_42 (dk_at dksX1_most_2 7 rfl rfl)
theorem dX1_most_54 : decode cX1_most 54 = .ok (.aload_n 3, 1) := dk_45 (dk_at dksX1_most_2 8 rfl rfl)
theorem dX1_most_55 : decode cX1_most 55 = .ok (.invokevirtual 273, 3) := dk_182 1 17 (dk_at dksX1_most_2 9 rfl rfl)
theorem dX1_most_58 : decode cX1_most 58 = .ok (.ifCond .eq 11, 3) := dk_153 0 11 (dk_at dksX1_most_2 12 rfl rfl)
theorem dX1_most_61 : decode cX1_most 61 = .ok (.aload_n 1, 1) := dk_43 (dk_at dksX1_most_2 15 rfl rfl)
theorem dX1_most_62 : decode cX1_most 62 = .ok (.aload_n 3, 1) := dk_45 (dk_at dksX1_most_2 16 rfl rfl)
theorem dX1_most_63 : decode cX1_most 63 = .ok (.invokestatic 277, 3) := dk_184 1 21 (dk_at dksX1_most_2 17 rfl rfl)
theorem dX1_most_66 : decode cX1_most 66 = .ok (.goto 6, 3) := dk_167 0 6 (dk_at dksX1_most_2 20 rfl rfl)
theorem dX1_most_69 : decode cX1_most 69 = .ok (.ldc_w 272, 3) := dk_19 1 16 (dk_at dksX1_most_3 0 rfl rfl)
theorem dX1_most_72 : decode cX1_most 72 = .ok (.istore 8, 2) := dk_54 8 (dk_at dksX1_most_3 3 rfl rfl)
theorem dX1_most_74 : decode cX1_most 74 = .ok (.iconst 0, 1) := dk_3 (dk_at dksX1_most_3 5 rfl rfl)
theorem dX1_most_75 : decode cX1_most 75 = .ok (.aload_n 3, 1) := dk_45 (dk_at dksX1_most_3 6 rfl rfl)
theorem dX1_most_76 : decode cX1_most 76 = .ok (.invokestatic 203, 3) := dk_184 0 203 (dk_at dksX1_most_3 7 rfl rfl)
theorem dX1_most_79 : decode cX1_most 79 = .ok (.invokestatic 267, 3) := dk_184 1 11 (dk_at dksX1_most_3 10 rfl rfl)
theorem dX1_most_82 : decode cX1_most 82 = .ok (.iconst 1, 1) := dk_4 (dk_at dksX1_most_3 13 rfl rfl)
theorem dX1_most_83 : decode cX1_most 83 = .ok (.aload_n 3, 1) := dk_45 (dk_at dksX1_most_3 14 rfl rfl)
theorem dX1_most_84 : decode cX1_most 84 = .ok (.invokestatic 203, 3) := dk_184 0 203 (dk_at dksX1_most_3 15 rfl rfl)
theorem dX1_most_87 : decode cX1_most 87 = .ok (.invokestatic 267, 3) := dk_184 1 11 (dk_at dksX1_most_3 18 rfl rfl)
theorem dX1_most_90 : decode cX1_most 90 = .ok (.iadd, 1) := dk_96 (dk_at dksX1_most_3 21 rfl rfl)
theorem dX1_most_91 : decode cX1_most 91 = .ok (.iconst 2, 1) := dk_5 (dk_at dksX1_most_3 22 rfl rfl)
theorem dX1_most_92 : decode cX1_most 92 = .ok (.aload_n 3, 1) := dk_45 (dk_at dksX1_most_3 23 rfl rfl)
theorem dX1_most_93 : decode cX1_most 93 = .ok (.invokestatic 203, 3) := dk_184 0 203 (dk_at dksX1_most_4 0 rfl rfl)
theorem dX1_most_96 : decode cX1_most 96 = .ok (.invokestatic 267, 3) := dk_184 1 11 (dk_at dksX1_most_4 3 rfl rfl)
theorem dX1_most_99 : decode cX1_most 99 = .ok (.iadd, 1) := dk_96 (dk_at dksX1_most_4 6 rfl rfl)
theorem dX1_most_100 : decode cX1_most 100 = .ok (.istore 9, 2) := dk_54 9 (dk_at dksX1_most_4 7 rfl rfl)
theorem dX1_most_102 : decode cX1_most 102 = .ok (.iload 8, 2) := dk_21 8 (dk_at dksX1_most_4 9 rfl rfl)
theorem dX1_most_104 : decode cX1_most 104 = .ok (.ldc_w 272, 3) := dk_19 1 16 (dk_at dksX1_most_4 11 rfl rfl)
theorem dX1_most_107 : decode cX1_most 107 = .ok (.if_icmp .le 40, 3) := dk_164 0 40 (dk_at dksX1_most_4 14 rfl rfl)
theorem dX1_most_110 : decode cX1_most 110 = .ok (.iload 8, 2) := dk_21 8 (dk_at dksX1_most_4 17 rfl rfl)
theorem dX1_most_112 : decode cX1_most 112 = .ok (.iload 4, 2) := dk_21 4 (dk_at dksX1_most_4 19 rfl rfl)
theorem dX1_most_114 : decode cX1_most 114 = .ok (.if_icmp .gt 17, 3) := dk_163 0 17 (dk_at dksX1_most_4 21 rfl rfl)
theorem dX1_most_117 : decode cX1_most 117 = .ok (.iload 8, 2) := dk_21 8 (dk_at dksX1_most_5 0 rfl rfl)
theorem dX1_most_119 : decode cX1_most 119 = .ok (.iload 4, 2) := dk_21 4 (dk_at dksX1_most_5 2 rfl rfl)
theorem dX1_most_121 : decode cX1_most 121 = .ok (.if_icmp .ne 26, 3) := dk_160 0 26 (dk_at dksX1_most_5 4 rfl rfl)
theorem dX1_most_124 : decode cX1_most 124 = .ok (.iload 9, 2) := dk_21 9 (dk_at dksX1_most_5 7 rfl rfl)
theorem dX1_most_126 : decode cX1_most 126 = .ok (.iload 5, 2) := dk_21 5 (dk_at dksX1_most_5 9 rfl rfl)
theorem dX1_most_128 : decode cX1_most 128 = .ok (.if_icmp .ge 19, 3) := dk_162 0 19 (dk_at dksX1_most_5 11 rfl rfl)
theorem dX1_most_131 : decode cX1_most 131 = .ok (.iload 8, 2) := dk_21 8 (dk_at dksX1_most_5 14 rfl rfl)
theorem dX1_most_133 : decode cX1_most 133 = .ok (.istore 4, 2) := dk_54 4 (dk_at dksX1_most_5 16 rfl rfl)
theorem dX1_most_135 : decode cX1_most 135 = .ok (.iload 9, 2) := dk_21 9 (dk_at dksX1_most_5 18 rfl rfl)
theorem dX1_most_137 : decode cX1_most 137 = .ok (.istore 5, 2) := dk_54 5 (dk_at dksX1_most_5 20 rfl rfl)
theorem dX1_most_139 : decode cX1_most 139 = .ok (.aload_n 3, 1) := dk_45 (dk_at dksX1_most_5 22 rfl rfl)
theorem dX1_most_140 : decode cX1_most 140 = .ok (.iconst 0, 1) := dk_3 (dk_at dksX1_most_5 23 rfl rfl)
theorem dX1_most_141 : decode cX1_most 141 = .ok (.aload_n 2, 1) := dk_44 (dk_at dksX1_most_6 0 rfl rfl)
theorem dX1_most_142 : decode cX1_most 142 = .ok (.iconst 0, 1) := dk_3 (dk_at dksX1_most_6 1 rfl rfl)
theorem dX1_most_143 : decode cX1_most 143 = .ok (.iconst 3, 1) := dk_6 (dk_at dksX1_most_6 2 rfl rfl)
theorem dX1_most_144 : decode cX1_most 144 = .ok (.invokestatic 281, 3) := dk_184 1 25 (dk_at dksX1_most_6 3 rfl rfl)
theorem dX1_most_147 : decode cX1_most 147 = .ok (.iinc 7 1, 3) := dk_132 7 1 (dk_at dksX1_most_6 6 rfl rfl)
theorem dX1_most_150 : decode cX1_most 150 = .ok (.goto (-123), 3) := dk_167 255 133 (dk_at dksX1_most_6 9 rfl rfl)
theorem dX1_most_153 : decode cX1_most 153 = .ok (.iinc 6 1, 3) := dk_132 6 1 (dk_at dksX1_most_6 12 rfl rfl)
theorem dX1_most_156 : decode cX1_most 156 = .ok (.goto (-140), 3) := dk_167 255 116 (dk_at dksX1_most_6 15 rfl rfl)
theorem dX1_most_159 : decode cX1_most 159 = .ok (.iload 4, 2) := dk_21 4 (dk_at dksX1_most_6 18 rfl rfl)
theorem dX1_most_161 : decode cX1_most 161 = .ok (.ldc_w 272, 3) := dk_19 1 16 (dk_at dksX1_most_6 20 rfl rfl)
theorem dX1_most_164 : decode cX1_most 164 = .ok (.if_icmp .ne 14, 3) := dk_160 0 14 (dk_at dksX1_most_7 0 rfl rfl)
theorem dX1_most_167 : decode cX1_most 167 = .ok (.new 126, 3) := dk_187 0 126 (dk_at dksX1_most_7 3 rfl rfl)
theorem dX1_most_170 : decode cX1_most 170 = .ok (.dup, 1) := dk_89 (dk_at dksX1_most_7 6 rfl rfl)
theorem dX1_most_171 : decode cX1_most 171 = .ok (.ldc_w 287, 3) := dk_19 1 31 (dk_at dksX1_most_7 7 rfl rfl)
theorem dX1_most_174 : decode cX1_most 174 = .ok (.invokespecial 289, 3) := dk_183 1 33 (dk_at dksX1_most_7 10 rfl rfl)
theorem dX1_most_177 : decode cX1_most 177 = .ok (.athrow, 1) := dk_191 (dk_at dksX1_most_7 13 rfl rfl)
theorem dX1_most_178 : decode cX1_most 178 = .ok (.iload 4, 2) := dk_21 4 (dk_at dksX1_most_7 14 rfl rfl)
theorem dX1_most_180 : decode cX1_most 180 = .ok (.ireturn, 1) := dk_172 (dk_at dksX1_most_7 16 rfl rfl)
abbrev cX1_isWithin : ByteArray := prog_1_method_44_code
def yX1_isWithin : MethodName := ⟨RX1, "isWithin", "([I)Z"⟩
def dkwX1_isWithin_1 : List UInt8 := [180, 0, 23, 29, 46, 104, 163, 0, 7, 4, 167, 0, 4, 3, 61, 132, 3, 1, 167, 255, 219, 28, 172]
abbrev dktX1_isWithin_1 : List UInt8 := dkwX1_isWithin_1 ++ []
def dkwX1_isWithin_0 : List UInt8 := [4, 61, 3, 62, 29, 6, 162, 0, 38, 28, 153, 0, 26, 29, 43, 184, 0, 203, 184, 1, 11, 6, 42]
abbrev dktX1_isWithin_0 : List UInt8 := dkwX1_isWithin_0 ++ dktX1_isWithin_1
theorem dksX1_isWithin_0 : cX1_isWithin.data.toList.drop 0 = dktX1_isWithin_0 := by decide +kernel
theorem dksX1_isWithin_1 : cX1_isWithin.data.toList.drop 23 = dktX1_isWithin_1 := dk_seg dksX1_isWithin_0 23 rfl rfl
theorem dX1_isWithin_0 : decode cX1_isWithin 0 = .ok (.iconst 1, 1) := dk_4 (dk_at dksX1_isWithin_0 0 rfl rfl)
theorem dX1_isWithin_1 : decode cX1_isWithin 1 = .ok (.istore_n 2, 1) := dk_61 (dk_at dksX1_isWithin_0 1 rfl rfl)
theorem dX1_isWithin_2 : decode cX1_isWithin 2 = .ok (.iconst 0, 1) := dk_3 (dk_at dksX1_isWithin_0 2 rfl rfl)
theorem dX1_isWithin_3 : decode cX1_isWithin 3 = .ok (.istore_n 3, 1) := dk_62 (dk_at dksX1_isWithin_0 3 rfl rfl)
theorem dX1_isWithin_4 : decode cX1_isWithin 4 = .ok (.iload_n 3, 1) := dk_29 (dk_at dksX1_isWithin_0 4 rfl rfl)
theorem dX1_isWithin_5 : decode cX1_isWithin 5 = .ok (.iconst 3, 1) := dk_6 (dk_at dksX1_isWithin_0 5 rfl rfl)
theorem dX1_isWithin_6 : decode cX1_isWithin 6 = .ok (.if_icmp .ge 38, 3) := dk_162 0 38 (dk_at dksX1_isWithin_0 6 rfl rfl)
theorem dX1_isWithin_9 : decode cX1_isWithin 9 = .ok (.iload_n 2, 1) := dk_28 (dk_at dksX1_isWithin_0 9 rfl rfl)
theorem dX1_isWithin_10 : decode cX1_isWithin 10 = .ok (.ifCond .eq 26, 3) := dk_153 0 26 (dk_at dksX1_isWithin_0 10 rfl rfl)
theorem dX1_isWithin_13 : decode cX1_isWithin 13 = .ok (.iload_n 3, 1) := dk_29 (dk_at dksX1_isWithin_0 13 rfl rfl)
theorem dX1_isWithin_14 : decode cX1_isWithin 14 = .ok (.aload_n 1, 1) := dk_43 (dk_at dksX1_isWithin_0 14 rfl rfl)
theorem dX1_isWithin_15 : decode cX1_isWithin 15 = .ok (.invokestatic 203, 3) := dk_184 0 203 (dk_at dksX1_isWithin_0 15 rfl rfl)
theorem dX1_isWithin_18 : decode cX1_isWithin 18 = .ok (.invokestatic 267, 3) := dk_184 1 11 (dk_at dksX1_isWithin_0 18 rfl rfl)
theorem dX1_isWithin_21 : decode cX1_isWithin 21 = .ok (.iconst 3, 1) := dk_6 (dk_at dksX1_isWithin_0 21 rfl rfl)
theorem dX1_isWithin_22 : decode cX1_isWithin 22 = .ok (.aload_n 0, 1) := dk_42 (dk_at dksX1_isWithin_0 22 rfl rfl)
theorem dX1_isWithin_23 : decode cX1_isWithin 23 = .ok (.getfield 23, 3) := dk_180 0 23 (dk_at dksX1_isWithin_1 0 rfl rfl)
theorem dX1_isWithin_26 : decode cX1_isWithin 26 = .ok (.iload_n 3, 1) := dk_29 (dk_at dksX1_isWithin_1 3 rfl rfl)
theorem dX1_isWithin_27 : decode cX1_isWithin 27 = .ok (.iaload, 1) := dk_46 (dk_at dksX1_isWithin_1 4 rfl rfl)
theorem dX1_isWithin_28 : decode cX1_isWithin 28 = .ok (.imul, 1) := dk_104 (dk_at dksX1_isWithin_1 5 rfl rfl)
theorem dX1_isWithin_29 : decode cX1_isWithin 29 = .ok (.if_icmp .gt 7, 3) := dk_163 0 7 (dk_at dksX1_isWithin_1 6 rfl rfl)
theorem dX1_isWithin_32 : decode cX1_isWithin 32 = .ok (.iconst 1, 1) := dk_4 (dk_at dksX1_isWithin_1 9 rfl rfl)
theorem dX1_isWithin_33 : decode cX1_isWithin 33 = .ok (.goto 4, 3) := dk_167 0 4 (dk_at dksX1_isWithin_1 10 rfl rfl)
theorem dX1_isWithin_36 : decode cX1_isWithin 36 = .ok (.iconst 0, 1) := dk_3 (dk_at dksX1_isWithin_1 13 rfl rfl)
theorem dX1_isWithin_37 : decode cX1_isWithin 37 = .ok (.istore_n 2, 1) := dk_61 (dk_at dksX1_isWithin_1 14 rfl rfl)
theorem dX1_isWithin_38 : decode cX1_isWithin 38 = .ok (.iinc 3 1, 3) := dk_132 3 1 (dk_at dksX1_isWithin_1 15 rfl rfl)
theorem dX1_isWithin_41 : decode cX1_isWithin 41 = .ok (.goto (-37), 3) := dk_167 255 219 (dk_at dksX1_isWithin_1 18 rfl rfl)
theorem dX1_isWithin_44 : decode cX1_isWithin 44 = .ok (.iload_n 2, 1) := dk_28 (dk_at dksX1_isWithin_1 21 rfl rfl)
theorem dX1_isWithin_45 : decode cX1_isWithin 45 = .ok (.ireturn, 1) := dk_172 (dk_at dksX1_isWithin_1 22 rfl rfl)
abbrev cX1_flowOn : ByteArray := prog_1_method_43_code
def yX1_flowOn : MethodName := ⟨RX1, "flowOn", "(I[I)I"⟩
def dkwX1_flowOn_1 : List UInt8 := [46, 100, 167, 0, 10, 43, 3, 46, 43, 5, 46, 100, 172]
abbrev dktX1_flowOn_1 : List UInt8 := dkwX1_flowOn_1 ++ []
def dkwX1_flowOn_0 : List UInt8 := [26, 154, 0, 13, 43, 3, 46, 43, 4, 46, 100, 167, 0, 25, 26, 4, 160, 0, 13, 43, 4, 46, 43, 5]
abbrev dktX1_flowOn_0 : List UInt8 := dkwX1_flowOn_0 ++ dktX1_flowOn_1
theorem dksX1_flowOn_0 : cX1_flowOn.data.toList.drop 0 = dktX1_flowOn_0 := by decide +kernel
theorem dksX1_flowOn_1 : cX1_flowOn.data.toList.drop 24 = dktX1_flowOn_1 := dk_seg dksX1_flowOn_0 24 rfl rfl
theorem dX1_flowOn_0 : decode cX1_flowOn 0 = .ok (.iload_n 0, 1) := dk_26 (dk_at dksX1_flowOn_0 0 rfl rfl)
theorem dX1_flowOn_1 : decode cX1_flowOn 1 = .ok (.ifCond .ne 13, 3) := dk_154 0 13 (dk_at dksX1_flowOn_0 1 rfl rfl)
theorem dX1_flowOn_4 : decode cX1_flowOn 4 = .ok (.aload_n 1, 1) := dk_43 (dk_at dksX1_flowOn_0 4 rfl rfl)
theorem dX1_flowOn_5 : decode cX1_flowOn 5 = .ok (.iconst 0, 1) := dk_3 (dk_at dksX1_flowOn_0 5 rfl rfl)
theorem dX1_flowOn_6 : decode cX1_flowOn 6 = .ok (.iaload, 1) := dk_46 (dk_at dksX1_flowOn_0 6 rfl rfl)
theorem dX1_flowOn_7 : decode cX1_flowOn 7 = .ok (.aload_n 1, 1) := dk_43 (dk_at dksX1_flowOn_0 7 rfl rfl)
theorem dX1_flowOn_8 : decode cX1_flowOn 8 = .ok (.iconst 1, 1) := dk_4 (dk_at dksX1_flowOn_0 8 rfl rfl)
theorem dX1_flowOn_9 : decode cX1_flowOn 9 = .ok (.iaload, 1) := dk_46 (dk_at dksX1_flowOn_0 9 rfl rfl)
theorem dX1_flowOn_10 : decode cX1_flowOn 10 = .ok (.isub, 1) := dk_100 (dk_at dksX1_flowOn_0 10 rfl rfl)
theorem dX1_flowOn_11 : decode cX1_flowOn 11 = .ok (.goto 25, 3) := dk_167 0 25 (dk_at dksX1_flowOn_0 11 rfl rfl)
theorem dX1_flowOn_14 : decode cX1_flowOn 14 = .ok (.iload_n 0, 1) := dk_26 (dk_at dksX1_flowOn_0 14 rfl rfl)
theorem dX1_flowOn_15 : decode cX1_flowOn 15 = .ok (.iconst 1, 1) := dk_4 (dk_at dksX1_flowOn_0 15 rfl rfl)
theorem dX1_flowOn_16 : decode cX1_flowOn 16 = .ok (.if_icmp .ne 13, 3) := dk_160 0 13 (dk_at dksX1_flowOn_0 16 rfl rfl)
theorem dX1_flowOn_19 : decode cX1_flowOn 19 = .ok (.aload_n 1, 1) := dk_43 (dk_at dksX1_flowOn_0 19 rfl rfl)
theorem dX1_flowOn_20 : decode cX1_flowOn 20 = .ok (.iconst 1, 1) := dk_4 (dk_at dksX1_flowOn_0 20 rfl rfl)
theorem dX1_flowOn_21 : decode cX1_flowOn 21 = .ok (.iaload, 1) := dk_46 (dk_at dksX1_flowOn_0 21 rfl rfl)
theorem dX1_flowOn_22 : decode cX1_flowOn 22 = .ok (.aload_n 1, 1) := dk_43 (dk_at dksX1_flowOn_0 22 rfl rfl)
theorem dX1_flowOn_23 : decode cX1_flowOn 23 = .ok (.iconst 2, 1) := dk_5 (dk_at dksX1_flowOn_0 23 rfl rfl)
theorem dX1_flowOn_24 : decode cX1_flowOn 24 = .ok (.iaload, 1) := dk_46 (dk_at dksX1_flowOn_1 0 rfl rfl)
theorem dX1_flowOn_25 : decode cX1_flowOn 25 = .ok (.isub, 1) := dk_100 (dk_at dksX1_flowOn_1 1 rfl rfl)
theorem dX1_flowOn_26 : decode cX1_flowOn 26 = .ok (.goto 10, 3) := dk_167 0 10 (dk_at dksX1_flowOn_1 2 rfl rfl)
theorem dX1_flowOn_29 : decode cX1_flowOn 29 = .ok (.aload_n 1, 1) := dk_43 (dk_at dksX1_flowOn_1 5 rfl rfl)
theorem dX1_flowOn_30 : decode cX1_flowOn 30 = .ok (.iconst 0, 1) := dk_3 (dk_at dksX1_flowOn_1 6 rfl rfl)
theorem dX1_flowOn_31 : decode cX1_flowOn 31 = .ok (.iaload, 1) := dk_46 (dk_at dksX1_flowOn_1 7 rfl rfl)
theorem dX1_flowOn_32 : decode cX1_flowOn 32 = .ok (.aload_n 1, 1) := dk_43 (dk_at dksX1_flowOn_1 8 rfl rfl)
theorem dX1_flowOn_33 : decode cX1_flowOn 33 = .ok (.iconst 2, 1) := dk_5 (dk_at dksX1_flowOn_1 9 rfl rfl)
theorem dX1_flowOn_34 : decode cX1_flowOn 34 = .ok (.iaload, 1) := dk_46 (dk_at dksX1_flowOn_1 10 rfl rfl)
theorem dX1_flowOn_35 : decode cX1_flowOn 35 = .ok (.isub, 1) := dk_100 (dk_at dksX1_flowOn_1 11 rfl rfl)
theorem dX1_flowOn_36 : decode cX1_flowOn 36 = .ok (.ireturn, 1) := dk_172 (dk_at dksX1_flowOn_1 12 rfl rfl)
abbrev cX1_sum : ByteArray := prog_1_method_46_code
def yX1_sum : MethodName := ⟨RX1, "sum", "([LGridMarket$Worth;[I)I"⟩
def dkwX1_sum_2 : List UInt8 := [61, 132, 3, 1, 167, 255, 209, 28, 172]
abbrev dktX1_sum_2 : List UInt8 := dkwX1_sum_2 ++ []
def dkwX1_sum_1 : List UInt8 := [19, 1, 16, 159, 0, 11, 21, 4, 19, 1, 16, 160, 0, 9, 19, 1, 16, 167, 0, 7, 28, 21, 4, 96]
abbrev dktX1_sum_1 : List UInt8 := dkwX1_sum_1 ++ dktX1_sum_2
def dkwX1_sum_0 : List UInt8 := [3, 61, 3, 62, 29, 6, 162, 0, 48, 42, 29, 50, 43, 29, 46, 185, 1, 34, 2, 0, 54, 4, 28]
abbrev dktX1_sum_0 : List UInt8 := dkwX1_sum_0 ++ dktX1_sum_1
theorem dksX1_sum_0 : cX1_sum.data.toList.drop 0 = dktX1_sum_0 := by decide +kernel
theorem dksX1_sum_1 : cX1_sum.data.toList.drop 23 = dktX1_sum_1 := dk_seg dksX1_sum_0 23 rfl rfl
theorem dksX1_sum_2 : cX1_sum.data.toList.drop 47 = dktX1_sum_2 := dk_seg dksX1_sum_1 24 rfl rfl
theorem dX1_sum_0 : decode cX1_sum 0 = .ok (.iconst 0, 1) := dk_3 (dk_at dksX1_sum_0 0 rfl rfl)
theorem dX1_sum_1 : decode cX1_sum 1 = .ok (.istore_n 2, 1) := dk_61 (dk_at dksX1_sum_0 1 rfl rfl)
theorem dX1_sum_2 : decode cX1_sum 2 = .ok (.iconst 0, 1) := dk_3 (dk_at dksX1_sum_0 2 rfl rfl)
theorem dX1_sum_3 : decode cX1_sum 3 = .ok (.istore_n 3, 1) := dk_62 (dk_at dksX1_sum_0 3 rfl rfl)
theorem dX1_sum_4 : decode cX1_sum 4 = .ok (.iload_n 3, 1) := dk_29 (dk_at dksX1_sum_0 4 rfl rfl)
theorem dX1_sum_5 : decode cX1_sum 5 = .ok (.iconst 3, 1) := dk_6 (dk_at dksX1_sum_0 5 rfl rfl)
theorem dX1_sum_6 : decode cX1_sum 6 = .ok (.if_icmp .ge 48, 3) := dk_162 0 48 (dk_at dksX1_sum_0 6 rfl rfl)
theorem dX1_sum_9 : decode cX1_sum 9 = .ok (.aload_n 0, 1) := dk_42 (dk_at dksX1_sum_0 9 rfl rfl)
theorem dX1_sum_10 : decode cX1_sum 10 = .ok (.iload_n 3, 1) := dk_29 (dk_at dksX1_sum_0 10 rfl rfl)
theorem dX1_sum_11 : decode cX1_sum 11 = .ok (.aaload, 1) := dk_50 (dk_at dksX1_sum_0 11 rfl rfl)
theorem dX1_sum_12 : decode cX1_sum 12 = .ok (.aload_n 1, 1) := dk_43 (dk_at dksX1_sum_0 12 rfl rfl)
theorem dX1_sum_13 : decode cX1_sum 13 = .ok (.iload_n 3, 1) := dk_29 (dk_at dksX1_sum_0 13 rfl rfl)
theorem dX1_sum_14 : decode cX1_sum 14 = .ok (.iaload, 1) := dk_46 (dk_at dksX1_sum_0 14 rfl rfl)
theorem dX1_sum_15 : decode cX1_sum 15 = .ok (.invokeinterface 290 2, 5) := by decide +kernel
theorem dX1_sum_20 : decode cX1_sum 20 = .ok (.istore 4, 2) := dk_54 4 (dk_at dksX1_sum_0 20 rfl rfl)
theorem dX1_sum_22 : decode cX1_sum 22 = .ok (.iload_n 2, 1) := dk_28 (dk_at dksX1_sum_0 22 rfl rfl)
theorem dX1_sum_23 : decode cX1_sum 23 = .ok (.ldc_w 272, 3) := dk_19 1 16 (dk_at dksX1_sum_1 0 rfl rfl)
theorem dX1_sum_26 : decode cX1_sum 26 = .ok (.if_icmp .eq 11, 3) := dk_159 0 11 (dk_at dksX1_sum_1 3 rfl rfl)
theorem dX1_sum_29 : decode cX1_sum 29 = .ok (.iload 4, 2) := dk_21 4 (dk_at dksX1_sum_1 6 rfl rfl)
theorem dX1_sum_31 : decode cX1_sum 31 = .ok (.ldc_w 272, 3) := dk_19 1 16 (dk_at dksX1_sum_1 8 rfl rfl)
theorem dX1_sum_34 : decode cX1_sum 34 = .ok (.if_icmp .ne 9, 3) := dk_160 0 9 (dk_at dksX1_sum_1 11 rfl rfl)
theorem dX1_sum_37 : decode cX1_sum 37 = .ok (.ldc_w 272, 3) := dk_19 1 16 (dk_at dksX1_sum_1 14 rfl rfl)
theorem dX1_sum_40 : decode cX1_sum 40 = .ok (.goto 7, 3) := dk_167 0 7 (dk_at dksX1_sum_1 17 rfl rfl)
theorem dX1_sum_43 : decode cX1_sum 43 = .ok (.iload_n 2, 1) := dk_28 (dk_at dksX1_sum_1 20 rfl rfl)
theorem dX1_sum_44 : decode cX1_sum 44 = .ok (.iload 4, 2) := dk_21 4 (dk_at dksX1_sum_1 21 rfl rfl)
theorem dX1_sum_46 : decode cX1_sum 46 = .ok (.iadd, 1) := dk_96 (dk_at dksX1_sum_1 23 rfl rfl)
theorem dX1_sum_47 : decode cX1_sum 47 = .ok (.istore_n 2, 1) := dk_61 (dk_at dksX1_sum_2 0 rfl rfl)
theorem dX1_sum_48 : decode cX1_sum 48 = .ok (.iinc 3 1, 3) := dk_132 3 1 (dk_at dksX1_sum_2 1 rfl rfl)
theorem dX1_sum_51 : decode cX1_sum 51 = .ok (.goto (-47), 3) := dk_167 255 209 (dk_at dksX1_sum_2 4 rfl rfl)
theorem dX1_sum_54 : decode cX1_sum 54 = .ok (.iload_n 2, 1) := dk_28 (dk_at dksX1_sum_2 7 rfl rfl)
theorem dX1_sum_55 : decode cX1_sum 55 = .ok (.ireturn, 1) := dk_172 (dk_at dksX1_sum_2 8 rfl rfl)
abbrev cX1_take : ByteArray := prog_1_method_52_code
def yX1_take : MethodName := ⟨RX1, "take", "(I[[LGridMarket$Curve;LGridMarket$Result;)V"⟩
def dkwX1_take_7 : List UInt8 := [132, 5, 1, 167, 255, 232, 132, 4, 1, 167, 255, 217, 177]
abbrev dktX1_take_7 : List UInt8 := dkwX1_take_7 ++ []
def dkwX1_take_6 : List UInt8 := [3, 54, 5, 21, 5, 6, 162, 0, 24, 21, 4, 21, 5, 159, 0, 11, 42, 21, 4, 21, 5, 182, 1, 86]
abbrev dktX1_take_6 : List UInt8 := dkwX1_take_6 ++ dktX1_take_7
def dkwX1_take_5 : List UInt8 := [182, 1, 83, 132, 5, 1, 167, 255, 217, 132, 4, 1, 167, 255, 202, 3, 54, 4, 21, 4, 6, 162, 0, 39]
abbrev dktX1_take_5 : List UInt8 := dkwX1_take_5 ++ dktX1_take_6
def dkwX1_take_4 : List UInt8 := [50, 21, 5, 50, 45, 180, 0, 200, 21, 4, 50, 21, 5, 46, 42, 27, 21, 5, 21, 4, 182, 1, 62, 100]
abbrev dktX1_take_4 : List UInt8 := dkwX1_take_4 ++ dktX1_take_5
def dkwX1_take_3 : List UInt8 := [167, 255, 201, 3, 54, 4, 21, 4, 7, 162, 0, 54, 3, 54, 5, 21, 5, 6, 162, 0, 39, 44, 21, 4]
abbrev dktX1_take_3 : List UInt8 := dkwX1_take_3 ++ dktX1_take_4
def dkwX1_take_2 : List UInt8 := [192, 0, 88, 27, 21, 4, 122, 4, 126, 4, 160, 0, 7, 4, 167, 0, 4, 3, 181, 0, 210, 132, 4, 1]
abbrev dktX1_take_2 : List UInt8 := dkwX1_take_2 ++ dktX1_take_3
def dkwX1_take_1 : List UInt8 := [185, 0, 70, 1, 0, 162, 0, 44, 42, 180, 0, 19, 180, 0, 85, 21, 4, 185, 0, 91, 2, 0]
abbrev dktX1_take_1 : List UInt8 := dkwX1_take_1 ++ dktX1_take_2
def dkwX1_take_0 : List UInt8 := [42, 180, 0, 19, 45, 181, 0, 57, 3, 54, 4, 21, 4, 42, 180, 0, 19, 180, 0, 85]
abbrev dktX1_take_0 : List UInt8 := dkwX1_take_0 ++ dktX1_take_1
theorem dksX1_take_0 : cX1_take.data.toList.drop 0 = dktX1_take_0 := by decide +kernel
theorem dksX1_take_1 : cX1_take.data.toList.drop 20 = dktX1_take_1 := dk_seg dksX1_take_0 20 rfl rfl
theorem dksX1_take_2 : cX1_take.data.toList.drop 42 = dktX1_take_2 := dk_seg dksX1_take_1 22 rfl rfl
theorem dksX1_take_3 : cX1_take.data.toList.drop 66 = dktX1_take_3 := dk_seg dksX1_take_2 24 rfl rfl
theorem dksX1_take_4 : cX1_take.data.toList.drop 90 = dktX1_take_4 := dk_seg dksX1_take_3 24 rfl rfl
theorem dksX1_take_5 : cX1_take.data.toList.drop 114 = dktX1_take_5 := dk_seg dksX1_take_4 24 rfl rfl
theorem dksX1_take_6 : cX1_take.data.toList.drop 138 = dktX1_take_6 := dk_seg dksX1_take_5 24 rfl rfl
theorem dksX1_take_7 : cX1_take.data.toList.drop 162 = dktX1_take_7 := dk_seg dksX1_take_6 24 rfl rfl
theorem dX1_take_0 : decode cX1_take 0 = .ok (.aload_n 0, 1) := dk_42 (dk_at dksX1_take_0 0 rfl rfl)
theorem dX1_take_1 : decode cX1_take 1 = .ok (.getfield 19, 3) := dk_180 0 19 (dk_at dksX1_take_0 1 rfl rfl)
theorem dX1_take_4 : decode cX1_take 4 = .ok (.aload_n 3, 1) := dk_45 (dk_at dksX1_take_0 4 rfl rfl)
theorem dX1_take_5 : decode cX1_take 5 = .ok (.putfield 57, 3) := dk_181 0 57 (dk_at dksX1_take_0 5 rfl rfl)
theorem dX1_take_8 : decode cX1_take 8 = .ok (.iconst 0, 1) := dk_3 (dk_at dksX1_take_0 8 rfl rfl)
theorem dX1_take_9 : decode cX1_take 9 = .ok (.istore 4, 2) := dk_54 4 (dk_at dksX1_take_0 9 rfl rfl)
theorem dX1_take_11 : decode cX1_take 11 = .ok (.iload 4, 2) := dk_21 4 (dk_at dksX1_take_0 11 rfl rfl)
theorem dX1_take_13 : decode cX1_take 13 = .ok (.aload_n 0, 1) := dk_42 (dk_at dksX1_take_0 13 rfl rfl)
theorem dX1_take_14 : decode cX1_take 14 = .ok (.getfield 19, 3) := dk_180 0 19 (dk_at dksX1_take_0 14 rfl rfl)
theorem dX1_take_17 : decode cX1_take 17 = .ok (.getfield 85, 3) := dk_180 0 85 (dk_at dksX1_take_0 17 rfl rfl)
theorem dX1_take_20 : decode cX1_take 20 = .ok (.invokeinterface 70 1, 5) := by decide +kernel
theorem dX1_take_25 : decode cX1_take 25 = .ok (.if_icmp .ge 44, 3) := dk_162 0 44 (dk_at dksX1_take_1 5 rfl rfl)
theorem dX1_take_28 : decode cX1_take 28 = .ok (.aload_n 0, 1) := dk_42 (dk_at dksX1_take_1 8 rfl rfl)
theorem dX1_take_29 : decode cX1_take 29 = .ok (.getfield 19, 3) := dk_180 0 19 (dk_at dksX1_take_1 9 rfl rfl)
theorem dX1_take_32 : decode cX1_take 32 = .ok (.getfield 85, 3) := dk_180 0 85 (dk_at dksX1_take_1 12 rfl rfl)
theorem dX1_take_35 : decode cX1_take 35 = .ok (.iload 4, 2) := dk_21 4 (dk_at dksX1_take_1 15 rfl rfl)
theorem dX1_take_37 : decode cX1_take 37 = .ok (.invokeinterface 91 2, 5) := by decide +kernel
theorem dX1_take_42 : decode cX1_take 42 = .ok (.checkcast 88, 3) := dk_192 0 88 (dk_at dksX1_take_2 0 rfl rfl)
theorem dX1_take_45 : decode cX1_take 45 = .ok (.iload_n 1, 1) := dk_27 (dk_at dksX1_take_2 3 rfl rfl)
theorem dX1_take_46 : decode cX1_take 46 = .ok (.iload 4, 2) := dk_21 4 (dk_at dksX1_take_2 4 rfl rfl)
theorem dX1_take_48 : decode cX1_take 48 = .ok (.ishr, 1) := dk_122 (dk_at dksX1_take_2 6 rfl rfl)
theorem dX1_take_49 : decode cX1_take 49 = .ok (.iconst 1, 1) := dk_4 (dk_at dksX1_take_2 7 rfl rfl)
theorem dX1_take_50 : decode cX1_take 50 = .ok (.iand, 1) := dk_126 (dk_at dksX1_take_2 8 rfl rfl)
theorem dX1_take_51 : decode cX1_take 51 = .ok (.iconst 1, 1) := dk_4 (dk_at dksX1_take_2 9 rfl rfl)
theorem dX1_take_52 : decode cX1_take 52 = .ok (.if_icmp .ne 7, 3) := dk_160 0 7 (dk_at dksX1_take_2 10 rfl rfl)
theorem dX1_take_55 : decode cX1_take 55 = .ok (.iconst 1, 1) := dk_4 (dk_at dksX1_take_2 13 rfl rfl)
theorem dX1_take_56 : decode cX1_take 56 = .ok (.goto 4, 3) := dk_167 0 4 (dk_at dksX1_take_2 14 rfl rfl)
theorem dX1_take_59 : decode cX1_take 59 = .ok (.iconst 0, 1) := dk_3 (dk_at dksX1_take_2 17 rfl rfl)
theorem dX1_take_60 : decode cX1_take 60 = .ok (.putfield 210, 3) := dk_181 0 210 (dk_at dksX1_take_2 18 rfl rfl)
theorem dX1_take_63 : decode cX1_take 63 = .ok (.iinc 4 1, 3) := dk_132 4 1 (dk_at dksX1_take_2 21 rfl rfl)
theorem dX1_take_66 : decode cX1_take 66 = .ok (.goto (-55), 3) := dk_167 255 201 (dk_at dksX1_take_3 0 rfl rfl)
theorem dX1_take_69 : decode cX1_take 69 = .ok (.iconst 0, 1) := dk_3 (dk_at dksX1_take_3 3 rfl rfl)
theorem dX1_take_70 : decode cX1_take 70 = .ok (.istore 4, 2) := dk_54 4 (dk_at dksX1_take_3 4 rfl rfl)
theorem dX1_take_72 : decode cX1_take 72 = .ok (.iload 4, 2) := dk_21 4 (dk_at dksX1_take_3 6 rfl rfl)
theorem dX1_take_74 : decode cX1_take 74 = .ok (.iconst 4, 1) := dk_7 (dk_at dksX1_take_3 8 rfl rfl)
theorem dX1_take_75 : decode cX1_take 75 = .ok (.if_icmp .ge 54, 3) := dk_162 0 54 (dk_at dksX1_take_3 9 rfl rfl)
theorem dX1_take_78 : decode cX1_take 78 = .ok (.iconst 0, 1) := dk_3 (dk_at dksX1_take_3 12 rfl rfl)
theorem dX1_take_79 : decode cX1_take 79 = .ok (.istore 5, 2) := dk_54 5 (dk_at dksX1_take_3 13 rfl rfl)
theorem dX1_take_81 : decode cX1_take 81 = .ok (.iload 5, 2) := dk_21 5 (dk_at dksX1_take_3 15 rfl rfl)
theorem dX1_take_83 : decode cX1_take 83 = .ok (.iconst 3, 1) := dk_6 (dk_at dksX1_take_3 17 rfl rfl)
theorem dX1_take_84 : decode cX1_take 84 = .ok (.if_icmp .ge 39, 3) := dk_162 0 39 (dk_at dksX1_take_3 18 rfl rfl)
theorem dX1_take_87 : decode cX1_take 87 = .ok (.aload_n 2, 1) := dk_44 (dk_at dksX1_take_3 21 rfl rfl)
theorem dX1_take_88 : decode cX1_take 88 = .ok (.iload 4, 2) := dk_21 4 (dk_at dksX1_take_3 22 rfl rfl)
theorem dX1_take_90 : decode cX1_take 90 = .ok (.aaload, 1) := dk_50 (dk_at dksX1_take_4 0 rfl rfl)
theorem dX1_take_91 : decode cX1_take 91 = .ok (.iload 5, 2) := dk_21 5 (dk_at dksX1_take_4 1 rfl rfl)
theorem dX1_take_93 : decode cX1_take 93 = .ok (.aaload, 1) := dk_50 (dk_at dksX1_take_4 3 rfl rfl)
theorem dX1_take_94 : decode cX1_take 94 = .ok (.aload_n 3, 1) := dk_45 (dk_at dksX1_take_4 4 rfl rfl)
theorem dX1_take_95 : decode cX1_take 95 = .ok (.getfield 200, 3) := dk_180 0 200 (dk_at dksX1_take_4 5 rfl rfl)
theorem dX1_take_98 : decode cX1_take 98 = .ok (.iload 4, 2) := dk_21 4 (dk_at dksX1_take_4 8 rfl rfl)
theorem dX1_take_100 : decode cX1_take 100 = .ok (.aaload, 1) := dk_50 (dk_at dksX1_take_4 10 rfl rfl)
theorem dX1_take_101 : decode cX1_take 101 = .ok (.iload 5, 2) := dk_21 5 (dk_at dksX1_take_4 11 rfl rfl)
theorem dX1_take_103 : decode cX1_take 103 = .ok (.iaload, 1) := dk_46 (dk_at dksX1_take_4 13 rfl rfl)
theorem dX1_take_104 : decode cX1_take 104 = .ok (.aload_n 0, 1) := dk_42 (dk_at dksX1_take_4 14 rfl rfl)
theorem dX1_take_105 : decode cX1_take 105 = .ok (.iload_n 1, 1) := dk_27 (dk_at dksX1_take_4 15 rfl rfl)
theorem dX1_take_106 : decode cX1_take 106 = .ok (.iload 5, 2) := dk_21 5 (dk_at dksX1_take_4 16 rfl rfl)
theorem dX1_take_108 : decode cX1_take 108 = .ok (.iload 4, 2) := dk_21 4 (dk_at dksX1_take_4 18 rfl rfl)
theorem dX1_take_110 : decode cX1_take 110 = .ok (.invokevirtual 318, 3) := dk_182 1 62 (dk_at dksX1_take_4 20 rfl rfl)
theorem dX1_take_113 : decode cX1_take 113 = .ok (.isub, 1) := dk_100 (dk_at dksX1_take_4 23 rfl rfl)
theorem dX1_take_114 : decode cX1_take 114 = .ok (.invokevirtual 339, 3) := dk_182 1 83 (dk_at dksX1_take_5 0 rfl rfl)
theorem dX1_take_117 : decode cX1_take 117 = .ok (.iinc 5 1, 3) := dk_132 5 1 (dk_at dksX1_take_5 3 rfl rfl)
theorem dX1_take_120 : decode cX1_take 120 = .ok (.goto (-39), 3) := dk_167 255 217 (dk_at dksX1_take_5 6 rfl rfl)
theorem dX1_take_123 : decode cX1_take 123 = .ok (.iinc 4 1, 3) := dk_132 4 1 (dk_at dksX1_take_5 9 rfl rfl)
theorem dX1_take_126 : decode cX1_take 126 = .ok (.goto (-54), 3) := dk_167 255 202 (dk_at dksX1_take_5 12 rfl rfl)
theorem dX1_take_129 : decode cX1_take 129 = .ok (.iconst 0, 1) := dk_3 (dk_at dksX1_take_5 15 rfl rfl)
theorem dX1_take_130 : decode cX1_take 130 = .ok (.istore 4, 2) := dk_54 4 (dk_at dksX1_take_5 16 rfl rfl)
theorem dX1_take_132 : decode cX1_take 132 = .ok (.iload 4, 2) := dk_21 4 (dk_at dksX1_take_5 18 rfl rfl)
theorem dX1_take_134 : decode cX1_take 134 = .ok (.iconst 3, 1) := dk_6 (dk_at dksX1_take_5 20 rfl rfl)
theorem dX1_take_135 : decode cX1_take 135 = .ok (.if_icmp .ge 39, 3) := dk_162 0 39 (dk_at dksX1_take_5 21 rfl rfl)
theorem dX1_take_138 : decode cX1_take 138 = .ok (.iconst 0, 1) := dk_3 (dk_at dksX1_take_6 0 rfl rfl)
theorem dX1_take_139 : decode cX1_take 139 = .ok (.istore 5, 2) := dk_54 5 (dk_at dksX1_take_6 1 rfl rfl)
theorem dX1_take_141 : decode cX1_take 141 = .ok (.iload 5, 2) := dk_21 5 (dk_at dksX1_take_6 3 rfl rfl)
theorem dX1_take_143 : decode cX1_take 143 = .ok (.iconst 3, 1) := dk_6 (dk_at dksX1_take_6 5 rfl rfl)
theorem dX1_take_144 : decode cX1_take 144 = .ok (.if_icmp .ge 24, 3) := dk_162 0 24 (dk_at dksX1_take_6 6 rfl rfl)
theorem dX1_take_147 : decode cX1_take 147 = .ok (.iload 4, 2) := dk_21 4 (dk_at dksX1_take_6 9 rfl rfl)
theorem dX1_take_149 : decode cX1_take 149 = .ok (.iload 5, 2) := dk_21 5 (dk_at dksX1_take_6 11 rfl rfl)
theorem dX1_take_151 : decode cX1_take 151 = .ok (.if_icmp .eq 11, 3) := dk_159 0 11 (dk_at dksX1_take_6 13 rfl rfl)
theorem dX1_take_154 : decode cX1_take 154 = .ok (.aload_n 0, 1) := dk_42 (dk_at dksX1_take_6 16 rfl rfl)
theorem dX1_take_155 : decode cX1_take 155 = .ok (.iload 4, 2) := dk_21 4 (dk_at dksX1_take_6 17 rfl rfl)
theorem dX1_take_157 : decode cX1_take 157 = .ok (.iload 5, 2) := dk_21 5 (dk_at dksX1_take_6 19 rfl rfl)
theorem dX1_take_159 : decode cX1_take 159 = .ok (.invokevirtual 342, 3) := dk_182 1 86 (dk_at dksX1_take_6 21 rfl rfl)
theorem dX1_take_162 : decode cX1_take 162 = .ok (.iinc 5 1, 3) := dk_132 5 1 (dk_at dksX1_take_7 0 rfl rfl)
theorem dX1_take_165 : decode cX1_take 165 = .ok (.goto (-24), 3) := dk_167 255 232 (dk_at dksX1_take_7 3 rfl rfl)
theorem dX1_take_168 : decode cX1_take 168 = .ok (.iinc 4 1, 3) := dk_132 4 1 (dk_at dksX1_take_7 6 rfl rfl)
theorem dX1_take_171 : decode cX1_take 171 = .ok (.goto (-39), 3) := dk_167 255 217 (dk_at dksX1_take_7 9 rfl rfl)
theorem dX1_take_174 : decode cX1_take 174 = .ok (.return_, 1) := dk_177 (dk_at dksX1_take_7 12 rfl rfl)
abbrev cX1_give : ByteArray := prog_1_method_53_code
def yX1_give : MethodName := ⟨RX1, "give", "(II)V"⟩
def dkwX1_give_11 : List UInt8 := [167, 0, 8, 25, 7, 180, 1, 99, 181, 1, 99, 132, 6, 1, 167, 255, 169, 177]
abbrev dktX1_give_11 : List UInt8 := dkwX1_give_11 ++ []
def dkwX1_give_10 : List UInt8 := [180, 1, 93, 28, 160, 0, 23, 21, 4, 158, 0, 14, 21, 5, 25, 7, 180, 0, 240, 104, 167, 0, 12, 3]
abbrev dktX1_give_10 : List UInt8 := dkwX1_give_10 ++ dktX1_give_11
def dkwX1_give_9 : List UInt8 := [185, 0, 91, 2, 0, 192, 0, 105, 58, 7, 25, 7, 25, 7, 180, 1, 90, 27, 160, 0, 32, 25, 7]
abbrev dktX1_give_9 : List UInt8 := dkwX1_give_9 ++ dktX1_give_10
def dkwX1_give_8 : List UInt8 := [180, 0, 102, 185, 0, 70, 1, 0, 162, 0, 76, 42, 180, 0, 19, 180, 0, 102, 21, 6]
abbrev dktX1_give_8 : List UInt8 := dkwX1_give_8 ++ dktX1_give_9
def dkwX1_give_7 : List UInt8 := [54, 5, 132, 7, 1, 167, 255, 134, 132, 6, 255, 167, 255, 120, 3, 54, 6, 21, 6, 42, 180, 0, 19]
abbrev dktX1_give_7 : List UInt8 := dkwX1_give_7 ++ dktX1_give_8
def dkwX1_give_6 : List UInt8 := [25, 8, 180, 0, 240, 100, 96, 54, 4, 25, 8, 180, 0, 240, 158, 0, 8, 21, 6, 167, 0, 5, 21, 5]
abbrev dktX1_give_6 : List UInt8 := dkwX1_give_6 ++ dktX1_give_7
def dkwX1_give_5 : List UInt8 := [180, 1, 95, 184, 1, 96, 181, 0, 240, 29, 25, 8, 180, 0, 240, 100, 62, 21, 4, 25, 8, 180, 1, 95]
abbrev dktX1_give_5 : List UInt8 := dkwX1_give_5 ++ dktX1_give_6
def dkwX1_give_4 : List UInt8 := [25, 8, 180, 1, 93, 28, 160, 0, 68, 25, 8, 180, 1, 94, 21, 6, 160, 0, 58, 25, 8, 29, 25, 8]
abbrev dktX1_give_4 : List UInt8 := dkwX1_give_4 ++ dktX1_give_5
def dkwX1_give_3 : List UInt8 := [180, 0, 102, 21, 7, 185, 0, 91, 2, 0, 192, 0, 105, 58, 8, 25, 8, 180, 1, 90, 27, 160, 0, 77]
abbrev dktX1_give_3 : List UInt8 := dkwX1_give_3 ++ dktX1_give_4
def dkwX1_give_2 : List UInt8 := [54, 7, 21, 7, 42, 180, 0, 19, 180, 0, 102, 185, 0, 70, 1, 0, 162, 0, 111, 42, 180, 0, 19]
abbrev dktX1_give_2 : List UInt8 := dkwX1_give_2 ++ dktX1_give_3
def dkwX1_give_1 : List UInt8 := [167, 0, 4, 5, 46, 62, 3, 54, 4, 3, 54, 5, 17, 1, 244, 54, 6, 21, 6, 155, 0, 137, 3]
abbrev dktX1_give_1 : List UInt8 := dkwX1_give_1 ++ dktX1_give_2
def dkwX1_give_0 : List UInt8 := [42, 180, 0, 23, 27, 28, 96, 4, 160, 0, 7, 3, 167, 0, 15, 27, 28, 96, 6, 160, 0, 7, 4]
abbrev dktX1_give_0 : List UInt8 := dkwX1_give_0 ++ dktX1_give_1
theorem dksX1_give_0 : cX1_give.data.toList.drop 0 = dktX1_give_0 := by decide +kernel
theorem dksX1_give_1 : cX1_give.data.toList.drop 23 = dktX1_give_1 := dk_seg dksX1_give_0 23 rfl rfl
theorem dksX1_give_2 : cX1_give.data.toList.drop 46 = dktX1_give_2 := dk_seg dksX1_give_1 23 rfl rfl
theorem dksX1_give_3 : cX1_give.data.toList.drop 69 = dktX1_give_3 := dk_seg dksX1_give_2 23 rfl rfl
theorem dksX1_give_4 : cX1_give.data.toList.drop 93 = dktX1_give_4 := dk_seg dksX1_give_3 24 rfl rfl
theorem dksX1_give_5 : cX1_give.data.toList.drop 117 = dktX1_give_5 := dk_seg dksX1_give_4 24 rfl rfl
theorem dksX1_give_6 : cX1_give.data.toList.drop 141 = dktX1_give_6 := dk_seg dksX1_give_5 24 rfl rfl
theorem dksX1_give_7 : cX1_give.data.toList.drop 165 = dktX1_give_7 := dk_seg dksX1_give_6 24 rfl rfl
theorem dksX1_give_8 : cX1_give.data.toList.drop 188 = dktX1_give_8 := dk_seg dksX1_give_7 23 rfl rfl
theorem dksX1_give_9 : cX1_give.data.toList.drop 208 = dktX1_give_9 := dk_seg dksX1_give_8 20 rfl rfl
theorem dksX1_give_10 : cX1_give.data.toList.drop 231 = dktX1_give_10 := dk_seg dksX1_give_9 23 rfl rfl
theorem dksX1_give_11 : cX1_give.data.toList.drop 255 = dktX1_give_11 := dk_seg dksX1_give_10 24 rfl rfl
theorem dX1_give_0 : decode cX1_give 0 = .ok (.aload_n 0, 1) := dk_42 (dk_at dksX1_give_0 0 rfl rfl)
theorem dX1_give_1 : decode cX1_give 1 = .ok (.getfield 23, 3) := dk_180 0 23 (dk_at dksX1_give_0 1 rfl rfl)
theorem dX1_give_4 : decode cX1_give 4 = .ok (.iload_n 1, 1) := dk_27 (dk_at dksX1_give_0 4 rfl rfl)
theorem dX1_give_5 : decode cX1_give 5 = .ok (.iload_n 2, 1) := dk_28 (dk_at dksX1_give_0 5 rfl rfl)
theorem dX1_give_6 : decode cX1_give 6 = .ok (.iadd, 1) := dk_96 (dk_at dksX1_give_0 6 rfl rfl)
theorem dX1_give_7 : decode cX1_give 7 = .ok (.iconst 1, 1) := dk_4 (dk_at dksX1_give_0 7 rfl rfl)
theorem dX1_give_8 : decode cX1_give 8 = .ok (.if_icmp .ne 7, 3) := dk_160 0 7 (dk_at dksX1_give_0 8 rfl rfl)
theorem dX1_give_11 : decode cX1_give 11 = .ok (.iconst 0, 1) := dk_3 (dk_at dksX1_give_0 11 rfl rfl)
theorem dX1_give_12 : decode cX1_give 12 = .ok (.goto 15, 3) := dk_167 0 15 (dk_at dksX1_give_0 12 rfl rfl)
theorem dX1_give_15 : decode cX1_give 15 = .ok (.iload_n 1, 1) := dk_27 (dk_at dksX1_give_0 15 rfl rfl)
theorem dX1_give_16 : decode cX1_give 16 = .ok (.iload_n 2, 1) := dk_28 (dk_at dksX1_give_0 16 rfl rfl)
theorem dX1_give_17 : decode cX1_give 17 = .ok (.iadd, 1) := dk_96 (dk_at dksX1_give_0 17 rfl rfl)
theorem dX1_give_18 : decode cX1_give 18 = .ok (.iconst 3, 1) := dk_6 (dk_at dksX1_give_0 18 rfl rfl)
theorem dX1_give_19 : decode cX1_give 19 = .ok (.if_icmp .ne 7, 3) := dk_160 0 7 (dk_at dksX1_give_0 19 rfl rfl)
theorem dX1_give_22 : decode cX1_give 22 = .ok (.iconst 1, 1) := dk_4 (dk_at dksX1_give_0 22 rfl rfl)
theorem dX1_give_23 : decode cX1_give 23 = .ok (.goto 4, 3) := dk_167 0 4 (dk_at dksX1_give_1 0 rfl rfl)
theorem dX1_give_26 : decode cX1_give 26 = .ok (.iconst 2, 1) := dk_5 (dk_at dksX1_give_1 3 rfl rfl)
theorem dX1_give_27 : decode cX1_give 27 = .ok (.iaload, 1) := dk_46 (dk_at dksX1_give_1 4 rfl rfl)
theorem dX1_give_28 : decode cX1_give 28 = .ok (.istore_n 3, 1) := dk_62 (dk_at dksX1_give_1 5 rfl rfl)
theorem dX1_give_29 : decode cX1_give 29 = .ok (.iconst 0, 1) := dk_3 (dk_at dksX1_give_1 6 rfl rfl)
theorem dX1_give_30 : decode cX1_give 30 = .ok (.istore 4, 2) := dk_54 4 (dk_at dksX1_give_1 7 rfl rfl)
theorem dX1_give_32 : decode cX1_give 32 = .ok (.iconst 0, 1) := dk_3 (dk_at dksX1_give_1 9 rfl rfl)
theorem dX1_give_33 : decode cX1_give 33 = .ok (.istore 5, 2) := dk_54 5 (dk_at dksX1_give_1 10 rfl rfl)
theorem dX1_give_35 : decode cX1_give 35 = .ok (.sipush 500, 3) := dk_17 1 244 (dk_at dksX1_give_1 12 rfl rfl)
theorem dX1_give_38 : decode cX1_give 38 = .ok (.istore 6, 2) := dk_54 6 (dk_at dksX1_give_1 15 rfl rfl)
theorem dX1_give_40 : decode cX1_give 40 = .ok (.iload 6, 2) := dk_21 6 (dk_at dksX1_give_1 17 rfl rfl)
theorem dX1_give_42 : decode cX1_give 42 = .ok (.ifCond .lt 137, 3) := dk_155 0 137 (dk_at dksX1_give_1 19 rfl rfl)
theorem dX1_give_45 : decode cX1_give 45 = .ok (.iconst 0, 1) := dk_3 (dk_at dksX1_give_1 22 rfl rfl)
theorem dX1_give_46 : decode cX1_give 46 = .ok (.istore 7, 2) := dk_54 7 (dk_at dksX1_give_2 0 rfl rfl)
theorem dX1_give_48 : decode cX1_give 48 = .ok (.iload 7, 2) := dk_21 7 (dk_at dksX1_give_2 2 rfl rfl)
theorem dX1_give_50 : decode cX1_give 50 = .ok (.aload_n 0, 1) := dk_42 (dk_at dksX1_give_2 4 rfl rfl)
theorem dX1_give_51 : decode cX1_give 51 = .ok (.getfield 19, 3) := dk_180 0 19 (dk_at dksX1_give_2 5 rfl rfl)
theorem dX1_give_54 : decode cX1_give 54 = .ok (.getfield 102, 3) := dk_180 0 102 (dk_at dksX1_give_2 8 rfl rfl)
theorem dX1_give_57 : decode cX1_give 57 = .ok (.invokeinterface 70 1, 5) := by decide +kernel
theorem dX1_give_62 : decode cX1_give 62 = .ok (.if_icmp .ge 111, 3) := dk_162 0 111 (dk_at dksX1_give_2 16 rfl rfl)
theorem dX1_give_65 : decode cX1_give 65 = .ok (.aload_n 0, 1) := dk_42 (dk_at dksX1_give_2 19 rfl rfl)
theorem dX1_give_66 : decode cX1_give 66 = .ok (.getfield 19, 3) := dk_180 0 19 (dk_at dksX1_give_2 20 rfl rfl)
theorem dX1_give_69 : decode cX1_give 69 = .ok (.getfield 102, 3) := dk_180 0 102 (dk_at dksX1_give_3 0 rfl rfl)
theorem dX1_give_72 : decode cX1_give 72 = .ok (.iload 7, 2) := dk_21 7 (dk_at dksX1_give_3 3 rfl rfl)
theorem dX1_give_74 : decode cX1_give 74 = .ok (.invokeinterface 91 2, 5) := by decide +kernel
theorem dX1_give_79 : decode cX1_give 79 = .ok (.checkcast 105, 3) := dk_192 0 105 (dk_at dksX1_give_3 10 rfl rfl)
theorem dX1_give_82 : decode cX1_give 82 = .ok (.astore 8, 2) := dk_58 8 (dk_at dksX1_give_3 13 rfl rfl)
theorem dX1_give_84 : decode cX1_give 84 = .ok (.aload 8, 2) := dk_25 8 (dk_at dksX1_give_3 15 rfl rfl)
theorem dX1_give_86 : decode cX1_give 86 = .ok (.getfield 346, 3) := dk_180 1 90 (dk_at dksX1_give_3 17 rfl rfl)
theorem dX1_give_89 : decode cX1_give 89 = .ok (.iload_n 1, 1) := dk_27 (dk_at dksX1_give_3 20 rfl rfl)
theorem dX1_give_90 : decode cX1_give 90 = .ok (.if_icmp .ne 77, 3) := dk_160 0 77 (dk_at dksX1_give_3 21 rfl rfl)
theorem dX1_give_93 : decode cX1_give 93 = .ok (.aload 8, 2) := dk_25 8 (dk_at dksX1_give_4 0 rfl rfl)
theorem dX1_give_95 : decode cX1_give 95 = .ok (.getfield 349, 3) := dk_180 1 93 (dk_at dksX1_give_4 2 rfl rfl)
theorem dX1_give_98 : decode cX1_give 98 = .ok (.iload_n 2, 1) := dk_28 (dk_at dksX1_give_4 5 rfl rfl)
theorem dX1_give_99 : decode cX1_give 99 = .ok (.if_icmp .ne 68, 3) := dk_160 0 68 (dk_at dksX1_give_4 6 rfl rfl)
theorem dX1_give_102 : decode cX1_give 102 = .ok (.aload 8, 2) := dk_25 8 (dk_at dksX1_give_4 9 rfl rfl)
theorem dX1_give_104 : decode cX1_give 104 = .ok (.getfield 350, 3) := dk_180 1 94 (dk_at dksX1_give_4 11 rfl rfl)
theorem dX1_give_107 : decode cX1_give 107 = .ok (.iload 6, 2) := dk_21 6 (dk_at dksX1_give_4 14 rfl rfl)
theorem dX1_give_109 : decode cX1_give 109 = .ok (.if_icmp .ne 58, 3) := dk_160 0 58 (dk_at dksX1_give_4 16 rfl rfl)
theorem dX1_give_112 : decode cX1_give 112 = .ok (.aload 8, 2) := dk_25 8 (dk_at dksX1_give_4 19 rfl rfl)
theorem dX1_give_114 : decode cX1_give 114 = .ok (.iload_n 3, 1) := dk_29 (dk_at dksX1_give_4 21 rfl rfl)
theorem dX1_give_115 : decode cX1_give 115 = .ok (.aload 8, 2) := dk_25 8 (dk_at dksX1_give_4 22 rfl rfl)
theorem dX1_give_117 : decode cX1_give 117 = .ok (.getfield 351, 3) := dk_180 1 95 (dk_at dksX1_give_5 0 rfl rfl)
theorem dX1_give_120 : decode cX1_give 120 = .ok (.invokestatic 352, 3) := dk_184 1 96 (dk_at dksX1_give_5 3 rfl rfl)
theorem dX1_give_123 : decode cX1_give 123 = .ok (.putfield 240, 3) := dk_181 0 240 (dk_at dksX1_give_5 6 rfl rfl)
theorem dX1_give_126 : decode cX1_give 126 = .ok (.iload_n 3, 1) := dk_29 (dk_at dksX1_give_5 9 rfl rfl)
theorem dX1_give_127 : decode cX1_give 127 = .ok (.aload 8, 2) := dk_25 8 (dk_at dksX1_give_5 10 rfl rfl)
theorem dX1_give_129 : decode cX1_give 129 = .ok (.getfield 240, 3) := dk_180 0 240 (dk_at dksX1_give_5 12 rfl rfl)
theorem dX1_give_132 : decode cX1_give 132 = .ok (.isub, 1) := dk_100 (dk_at dksX1_give_5 15 rfl rfl)
theorem dX1_give_133 : decode cX1_give 133 = .ok (.istore_n 3, 1) := dk_62 (dk_at dksX1_give_5 16 rfl rfl)
theorem dX1_give_134 : decode cX1_give 134 = .ok (.iload 4, 2) := dk_21 4 (dk_at dksX1_give_5 17 rfl rfl)
theorem dX1_give_136 : decode cX1_give 136 = .ok (.aload 8, 2) := dk_25 8 (dk_at dksX1_give_5 19 rfl rfl)
theorem dX1_give_138 : decode cX1_give 138 = .ok (.getfield 351, 3) := dk_180 1 95 (dk_at dksX1_give_5 21 rfl rfl)
theorem dX1_give_141 : decode cX1_give 141 = .ok (.aload 8, 2) := dk_25 8 (dk_at dksX1_give_6 0 rfl rfl)
theorem dX1_give_143 : decode cX1_give 143 = .ok (.getfield 240, 3) := dk_180 0 240 (dk_at dksX1_give_6 2 rfl rfl)
theorem dX1_give_146 : decode cX1_give 146 = .ok (.isub, 1) := dk_100 (dk_at dksX1_give_6 5 rfl rfl)
theorem dX1_give_147 : decode cX1_give 147 = .ok (.iadd, 1) := dk_96 (dk_at dksX1_give_6 6 rfl rfl)
theorem dX1_give_148 : decode cX1_give 148 = .ok (.istore 4, 2) := dk_54 4 (dk_at dksX1_give_6 7 rfl rfl)
theorem dX1_give_150 : decode cX1_give 150 = .ok (.aload 8, 2) := dk_25 8 (dk_at dksX1_give_6 9 rfl rfl)
theorem dX1_give_152 : decode cX1_give 152 = .ok (.getfield 240, 3) := dk_180 0 240 (dk_at dksX1_give_6 11 rfl rfl)
theorem dX1_give_155 : decode cX1_give 155 = .ok (.ifCond .le 8, 3) := dk_158 0 8 (dk_at dksX1_give_6 14 rfl rfl)
theorem dX1_give_158 : decode cX1_give 158 = .ok (.iload 6, 2) := dk_21 6 (dk_at dksX1_give_6 17 rfl rfl)
theorem dX1_give_160 : decode cX1_give 160 = .ok (.goto 5, 3) := dk_167 0 5 (dk_at dksX1_give_6 19 rfl rfl)
theorem dX1_give_163 : decode cX1_give 163 = .ok (.iload 5, 2) := dk_21 5 (dk_at dksX1_give_6 22 rfl rfl)
theorem dX1_give_165 : decode cX1_give 165 = .ok (.istore 5, 2) := dk_54 5 (dk_at dksX1_give_7 0 rfl rfl)
theorem dX1_give_167 : decode cX1_give 167 = .ok (.iinc 7 1, 3) := dk_132 7 1 (dk_at dksX1_give_7 2 rfl rfl)
theorem dX1_give_170 : decode cX1_give 170 = .ok (.goto (-122), 3) := dk_167 255 134 (dk_at dksX1_give_7 5 rfl rfl)
theorem dX1_give_173 : decode cX1_give 173 = .ok (.iinc 6 (-1), 3) := dk_132 6 255 (dk_at dksX1_give_7 8 rfl rfl)
theorem dX1_give_176 : decode cX1_give 176 = .ok (.goto (-136), 3) := dk_167 255 120 (dk_at dksX1_give_7 11 rfl rfl)
theorem dX1_give_179 : decode cX1_give 179 = .ok (.iconst 0, 1) := dk_3 (dk_at dksX1_give_7 14 rfl rfl)
theorem dX1_give_180 : decode cX1_give 180 = .ok (.istore 6, 2) := dk_54 6 (dk_at dksX1_give_7 15 rfl rfl)
theorem dX1_give_182 : decode cX1_give 182 = .ok (.iload 6, 2) := dk_21 6 (dk_at dksX1_give_7 17 rfl rfl)
theorem dX1_give_184 : decode cX1_give 184 = .ok (.aload_n 0, 1) := dk_42 (dk_at dksX1_give_7 19 rfl rfl)
theorem dX1_give_185 : decode cX1_give 185 = .ok (.getfield 19, 3) := dk_180 0 19 (dk_at dksX1_give_7 20 rfl rfl)
theorem dX1_give_188 : decode cX1_give 188 = .ok (.getfield 102, 3) := dk_180 0 102 (dk_at dksX1_give_8 0 rfl rfl)
theorem dX1_give_191 : decode cX1_give 191 = .ok (.invokeinterface 70 1, 5) := by decide +kernel
theorem dX1_give_196 : decode cX1_give 196 = .ok (.if_icmp .ge 76, 3) := dk_162 0 76 (dk_at dksX1_give_8 8 rfl rfl)
theorem dX1_give_199 : decode cX1_give 199 = .ok (.aload_n 0, 1) := dk_42 (dk_at dksX1_give_8 11 rfl rfl)
theorem dX1_give_200 : decode cX1_give 200 = .ok (.getfield 19, 3) := dk_180 0 19 (dk_at dksX1_give_8 12 rfl rfl)
theorem dX1_give_203 : decode cX1_give 203 = .ok (.getfield 102, 3) := dk_180 0 102 (dk_at dksX1_give_8 15 rfl rfl)
theorem dX1_give_206 : decode cX1_give 206 = .ok (.iload 6, 2) := dk_21 6 (dk_at dksX1_give_8 18 rfl rfl)
theorem dX1_give_208 : decode cX1_give 208 = .ok (.invokeinterface 91 2, 5) := by decide +kernel
theorem dX1_give_213 : decode cX1_give 213 = .ok (.checkcast 105, 3) := dk_192 0 105 (dk_at dksX1_give_9 5 rfl rfl)
theorem dX1_give_216 : decode cX1_give 216 = .ok (.astore 7, 2) := dk_58 7 (dk_at dksX1_give_9 8 rfl rfl)
theorem dX1_give_218 : decode cX1_give 218 = .ok (.aload 7, 2) := dk_25 7 (dk_at dksX1_give_9 10 rfl rfl)
theorem dX1_give_220 : decode cX1_give 220 = .ok (.aload 7, 2) := dk_25 7 (dk_at dksX1_give_9 12 rfl rfl)
theorem dX1_give_222 : decode cX1_give 222 = .ok (.getfield 346, 3) := dk_180 1 90 (dk_at dksX1_give_9 14 rfl rfl)
theorem dX1_give_225 : decode cX1_give 225 = .ok (.iload_n 1, 1) := dk_27 (dk_at dksX1_give_9 17 rfl rfl)
theorem dX1_give_226 : decode cX1_give 226 = .ok (.if_icmp .ne 32, 3) := dk_160 0 32 (dk_at dksX1_give_9 18 rfl rfl)
theorem dX1_give_229 : decode cX1_give 229 = .ok (.aload 7, 2) := dk_25 7 (dk_at dksX1_give_9 21 rfl rfl)
theorem dX1_give_231 : decode cX1_give 231 = .ok (.getfield 349, 3) := dk_180 1 93 (dk_at dksX1_give_10 0 rfl rfl)
theorem dX1_give_234 : decode cX1_give 234 = .ok (.iload_n 2, 1) := dk_28 (dk_at dksX1_give_10 3 rfl rfl)
theorem dX1_give_235 : decode cX1_give 235 = .ok (.if_icmp .ne 23, 3) := dk_160 0 23 (dk_at dksX1_give_10 4 rfl rfl)
theorem dX1_give_238 : decode cX1_give 238 = .ok (.iload 4, 2) := dk_21 4 (dk_at dksX1_give_10 7 rfl rfl)
theorem dX1_give_240 : decode cX1_give 240 = .ok (.ifCond .le 14, 3) := dk_158 0 14 (dk_at dksX1_give_10 9 rfl rfl)
theorem dX1_give_243 : decode cX1_give 243 = .ok (.iload 5, 2) := dk_21 5 (dk_at dksX1_give_10 12 rfl rfl)
theorem dX1_give_245 : decode cX1_give 245 = .ok (.aload 7, 2) := dk_25 7 (dk_at dksX1_give_10 14 rfl rfl)
theorem dX1_give_247 : decode cX1_give 247 = .ok (.getfield 240, 3) := dk_180 0 240 (dk_at dksX1_give_10 16 rfl rfl)
theorem dX1_give_250 : decode cX1_give 250 = .ok (.imul, 1) := dk_104 (dk_at dksX1_give_10 19 rfl rfl)
theorem dX1_give_251 : decode cX1_give 251 = .ok (.goto 12, 3) := dk_167 0 12 (dk_at dksX1_give_10 20 rfl rfl)
theorem dX1_give_254 : decode cX1_give 254 = .ok (.iconst 0, 1) := dk_3 (dk_at dksX1_give_10 23 rfl rfl)
theorem dX1_give_255 : decode cX1_give 255 = .ok (.goto 8, 3) := dk_167 0 8 (dk_at dksX1_give_11 0 rfl rfl)
theorem dX1_give_258 : decode cX1_give 258 = .ok (.aload 7, 2) := dk_25 7 (dk_at dksX1_give_11 3 rfl rfl)
theorem dX1_give_260 : decode cX1_give 260 = .ok (.getfield 355, 3) := dk_180 1 99 (dk_at dksX1_give_11 5 rfl rfl)
theorem dX1_give_263 : decode cX1_give 263 = .ok (.putfield 355, 3) := dk_181 1 99 (dk_at dksX1_give_11 8 rfl rfl)
theorem dX1_give_266 : decode cX1_give 266 = .ok (.iinc 6 1, 3) := dk_132 6 1 (dk_at dksX1_give_11 11 rfl rfl)
theorem dX1_give_269 : decode cX1_give 269 = .ok (.goto (-87), 3) := dk_167 255 169 (dk_at dksX1_give_11 14 rfl rfl)
theorem dX1_give_272 : decode cX1_give 272 = .ok (.return_, 1) := dk_177 (dk_at dksX1_give_11 17 rfl rfl)
abbrev cX1_offer : ByteArray := prog_1_method_9_code
def yX1_offer : MethodName := ⟨RX1, "offer", "(IIIZII)I"⟩
def dkwX1_offer_6 : List UInt8 := [185, 0, 81, 2, 0, 87, 42, 180, 0, 19, 180, 0, 139, 185, 0, 70, 1, 0, 4, 100, 172]
abbrev dktX1_offer_6 : List UInt8 := dkwX1_offer_6 ++ []
def dkwX1_offer_5 : List UInt8 := [183, 0, 144, 58, 7, 42, 25, 7, 182, 0, 145, 42, 180, 0, 19, 180, 0, 139, 25, 7]
abbrev dktX1_offer_5 : List UInt8 := dkwX1_offer_5 ++ dktX1_offer_6
def dkwX1_offer_4 : List UInt8 := [162, 0, 7, 4, 167, 0, 4, 3, 184, 0, 54, 187, 0, 142, 89, 27, 28, 29, 21, 4, 21, 5, 21, 6]
abbrev dktX1_offer_4 : List UInt8 := dkwX1_offer_4 ++ dktX1_offer_5
def dkwX1_offer_3 : List UInt8 := [180, 0, 19, 180, 0, 57, 198, 0, 24, 42, 180, 0, 19, 180, 0, 139, 185, 0, 70, 1, 0, 16, 60]
abbrev dktX1_offer_3 : List UInt8 := dkwX1_offer_3 ++ dktX1_offer_4
def dkwX1_offer_2 : List UInt8 := [184, 0, 46, 153, 0, 7, 4, 167, 0, 4, 3, 184, 0, 50, 42, 180, 0, 33, 27, 51, 154, 0, 34, 42]
abbrev dktX1_offer_2 : List UInt8 := dkwX1_offer_2 ++ dktX1_offer_3
def dkwX1_offer_1 : List UInt8 := [167, 0, 4, 3, 184, 0, 41, 21, 5, 3, 17, 1, 44, 184, 0, 46, 153, 0, 18, 21, 6, 4, 16, 10]
abbrev dktX1_offer_1 : List UInt8 := dkwX1_offer_1 ++ dktX1_offer_2
def dkwX1_offer_0 : List UInt8 := [27, 184, 0, 37, 153, 0, 21, 28, 184, 0, 61, 153, 0, 14, 29, 184, 0, 64, 153, 0, 7, 4]
abbrev dktX1_offer_0 : List UInt8 := dkwX1_offer_0 ++ dktX1_offer_1
theorem dksX1_offer_0 : cX1_offer.data.toList.drop 0 = dktX1_offer_0 := by decide +kernel
theorem dksX1_offer_1 : cX1_offer.data.toList.drop 22 = dktX1_offer_1 := dk_seg dksX1_offer_0 22 rfl rfl
theorem dksX1_offer_2 : cX1_offer.data.toList.drop 46 = dktX1_offer_2 := dk_seg dksX1_offer_1 24 rfl rfl
theorem dksX1_offer_3 : cX1_offer.data.toList.drop 70 = dktX1_offer_3 := dk_seg dksX1_offer_2 24 rfl rfl
theorem dksX1_offer_4 : cX1_offer.data.toList.drop 93 = dktX1_offer_4 := dk_seg dksX1_offer_3 23 rfl rfl
theorem dksX1_offer_5 : cX1_offer.data.toList.drop 117 = dktX1_offer_5 := dk_seg dksX1_offer_4 24 rfl rfl
theorem dksX1_offer_6 : cX1_offer.data.toList.drop 137 = dktX1_offer_6 := dk_seg dksX1_offer_5 20 rfl rfl
theorem dX1_offer_0 : decode cX1_offer 0 = .ok (.iload_n 1, 1) := dk_27 (dk_at dksX1_offer_0 0 rfl rfl)
theorem dX1_offer_1 : decode cX1_offer 1 = .ok (.invokestatic 37, 3) := dk_184 0 37 (dk_at dksX1_offer_0 1 rfl rfl)
theorem dX1_offer_4 : decode cX1_offer 4 = .ok (.ifCond .eq 21, 3) := dk_153 0 21 (dk_at dksX1_offer_0 4 rfl rfl)
theorem dX1_offer_7 : decode cX1_offer 7 = .ok (.iload_n 2, 1) := dk_28 (dk_at dksX1_offer_0 7 rfl rfl)
theorem dX1_offer_8 : decode cX1_offer 8 = .ok (.invokestatic 61, 3) := dk_184 0 61 (dk_at dksX1_offer_0 8 rfl rfl)
theorem dX1_offer_11 : decode cX1_offer 11 = .ok (.ifCond .eq 14, 3) := dk_153 0 14 (dk_at dksX1_offer_0 11 rfl rfl)
theorem dX1_offer_14 : decode cX1_offer 14 = .ok (.iload_n 3, 1) := dk_29 (dk_at dksX1_offer_0 14 rfl rfl)
theorem dX1_offer_15 : decode cX1_offer 15 = .ok (.invokestatic 64, 3) := dk_184 0 64 (dk_at dksX1_offer_0 15 rfl rfl)
theorem dX1_offer_18 : decode cX1_offer 18 = .ok (.ifCond .eq 7, 3) := dk_153 0 7 (dk_at dksX1_offer_0 18 rfl rfl)
theorem dX1_offer_21 : decode cX1_offer 21 = .ok (.iconst 1, 1) := dk_4 (dk_at dksX1_offer_0 21 rfl rfl)
theorem dX1_offer_22 : decode cX1_offer 22 = .ok (.goto 4, 3) := dk_167 0 4 (dk_at dksX1_offer_1 0 rfl rfl)
theorem dX1_offer_25 : decode cX1_offer 25 = .ok (.iconst 0, 1) := dk_3 (dk_at dksX1_offer_1 3 rfl rfl)
theorem dX1_offer_26 : decode cX1_offer 26 = .ok (.invokestatic 41, 3) := dk_184 0 41 (dk_at dksX1_offer_1 4 rfl rfl)
theorem dX1_offer_29 : decode cX1_offer 29 = .ok (.iload 5, 2) := dk_21 5 (dk_at dksX1_offer_1 7 rfl rfl)
theorem dX1_offer_31 : decode cX1_offer 31 = .ok (.iconst 0, 1) := dk_3 (dk_at dksX1_offer_1 9 rfl rfl)
theorem dX1_offer_32 : decode cX1_offer 32 = .ok (.sipush 300, 3) := dk_17 1 44 (dk_at dksX1_offer_1 10 rfl rfl)
theorem dX1_offer_35 : decode cX1_offer 35 = .ok (.invokestatic 46, 3) := dk_184 0 46 (dk_at dksX1_offer_1 13 rfl rfl)
theorem dX1_offer_38 : decode cX1_offer 38 = .ok (.ifCond .eq 18, 3) := dk_153 0 18 (dk_at dksX1_offer_1 16 rfl rfl)
theorem dX1_offer_41 : decode cX1_offer 41 = .ok (.iload 6, 2) := dk_21 6 (dk_at dksX1_offer_1 19 rfl rfl)
theorem dX1_offer_43 : decode cX1_offer 43 = .ok (.iconst 1, 1) := dk_4 (dk_at dksX1_offer_1 21 rfl rfl)
theorem dX1_offer_44 : decode cX1_offer 44 = .ok (.bipush 10, 2) := dk_16 10 (dk_at dksX1_offer_1 22 rfl rfl)
theorem dX1_offer_46 : decode cX1_offer 46 = .ok (.invokestatic 46, 3) := dk_184 0 46 (dk_at dksX1_offer_2 0 rfl rfl)
theorem dX1_offer_49 : decode cX1_offer 49 = .ok (.ifCond .eq 7, 3) := dk_153 0 7 (dk_at dksX1_offer_2 3 rfl rfl)
theorem dX1_offer_52 : decode cX1_offer 52 = .ok (.iconst 1, 1) := dk_4 (dk_at dksX1_offer_2 6 rfl rfl)
theorem dX1_offer_53 : decode cX1_offer 53 = .ok (.goto 4, 3) := dk_167 0 4 (dk_at dksX1_offer_2 7 rfl rfl)
theorem dX1_offer_56 : decode cX1_offer 56 = .ok (.iconst 0, 1) := dk_3 (dk_at dksX1_offer_2 10 rfl rfl)
theorem dX1_offer_57 : decode cX1_offer 57 = .ok (.invokestatic 50, 3) := dk_184 0 50 (dk_at dksX1_offer_2 11 rfl rfl)
theorem dX1_offer_60 : decode cX1_offer 60 = .ok (.aload_n 0, 1) := dk_42 (dk_at dksX1_offer_2 14 rfl rfl)
theorem dX1_offer_61 : decode cX1_offer 61 = .ok (.getfield 33, 3) := dk_180 0 33 (dk_at dksX1_offer_2 15 rfl rfl)
theorem dX1_offer_64 : decode cX1_offer 64 = .ok (.iload_n 1, 1) := dk_27 (dk_at dksX1_offer_2 18 rfl rfl)
theorem dX1_offer_65 : decode cX1_offer 65 = .ok (.baload, 1) := dk_51 (dk_at dksX1_offer_2 19 rfl rfl)
theorem dX1_offer_66 : decode cX1_offer 66 = .ok (.ifCond .ne 34, 3) := dk_154 0 34 (dk_at dksX1_offer_2 20 rfl rfl)
theorem dX1_offer_69 : decode cX1_offer 69 = .ok (.aload_n 0, 1) := dk_42 (dk_at dksX1_offer_2 23 rfl rfl)
theorem dX1_offer_70 : decode cX1_offer 70 = .ok (.getfield 19, 3) := dk_180 0 19 (dk_at dksX1_offer_3 0 rfl rfl)
theorem dX1_offer_73 : decode cX1_offer 73 = .ok (.getfield 57, 3) := dk_180 0 57 (dk_at dksX1_offer_3 3 rfl rfl)
theorem dX1_offer_76 : decode cX1_offer 76 = .ok (.ifnull 24, 3) := dk_198 0 24 (dk_at dksX1_offer_3 6 rfl rfl)
theorem dX1_offer_79 : decode cX1_offer 79 = .ok (.aload_n 0, 1) := dk_42 (dk_at dksX1_offer_3 9 rfl rfl)
theorem dX1_offer_80 : decode cX1_offer 80 = .ok (.getfield 19, 3) := dk_180 0 19 (dk_at dksX1_offer_3 10 rfl rfl)
theorem dX1_offer_83 : decode cX1_offer 83 = .ok (.getfield 139, 3) := dk_180 0 139 (dk_at dksX1_offer_3 13 rfl rfl)
theorem dX1_offer_86 : decode cX1_offer 86 = .ok (.invokeinterface 70 1, 5) := by decide +kernel
theorem dX1_offer_91 : decode cX1_offer 91 = .ok (.bipush 60, 2) := dk_16 60 (dk_at dksX1_offer_3 21 rfl rfl)
theorem dX1_offer_93 : decode cX1_offer 93 = .ok (.if_icmp .ge 7, 3) := dk_162 0 7 (dk_at dksX1_offer_4 0 rfl rfl)
theorem dX1_offer_96 : decode cX1_offer 96 = .ok (.iconst 1, 1) := dk_4 (dk_at dksX1_offer_4 3 rfl rfl)
theorem dX1_offer_97 : decode cX1_offer 97 = .ok (.goto 4, 3) := dk_167 0 4 (dk_at dksX1_offer_4 4 rfl rfl)
theorem dX1_offer_100 : decode cX1_offer 100 = .ok (.iconst 0, 1) := dk_3 (dk_at dksX1_offer_4 7 rfl rfl)
theorem dX1_offer_101 : decode cX1_offer 101 = .ok (.invokestatic 54, 3) := dk_184 0 54 (dk_at dksX1_offer_4 8 rfl rfl)
theorem dX1_offer_104 : decode cX1_offer 104 = .ok (.new 142, 3) := dk_187 0 142 (dk_at dksX1_offer_4 11 rfl rfl)
theorem dX1_offer_107 : decode cX1_offer 107 = .ok (.dup, 1) := dk_89 (dk_at dksX1_offer_4 14 rfl rfl)
theorem dX1_offer_108 : decode cX1_offer 108 = .ok (.iload_n 1, 1) := dk_27 (dk_at dksX1_offer_4 15 rfl rfl)
theorem dX1_offer_109 : decode cX1_offer 109 = .ok (.iload_n 2, 1) := dk_28 (dk_at dksX1_offer_4 16 rfl rfl)
theorem dX1_offer_110 : decode cX1_offer 110 = .ok (.iload_n 3, 1) := dk_29 (dk_at dksX1_offer_4 17 rfl rfl)
theorem dX1_offer_111 : decode cX1_offer 111 = .ok (.iload 4, 2) := dk_21 4 (dk_at dksX1_offer_4 18 rfl rfl)
theorem dX1_offer_113 : decode cX1_offer 113 = .ok (.iload 5, 2) := dk_21 5 (dk_at dksX1_offer_4 20 rfl rfl)
theorem dX1_offer_115 : decode cX1_offer 115 = .ok (.iload 6, 2) := dk_21 6 (dk_at dksX1_offer_4 22 rfl rfl)
theorem dX1_offer_117 : decode cX1_offer 117 = .ok (.invokespecial 144, 3) := dk_183 0 144 (dk_at dksX1_offer_5 0 rfl rfl)
theorem dX1_offer_120 : decode cX1_offer 120 = .ok (.astore 7, 2) := dk_58 7 (dk_at dksX1_offer_5 3 rfl rfl)
theorem dX1_offer_122 : decode cX1_offer 122 = .ok (.aload_n 0, 1) := dk_42 (dk_at dksX1_offer_5 5 rfl rfl)
theorem dX1_offer_123 : decode cX1_offer 123 = .ok (.aload 7, 2) := dk_25 7 (dk_at dksX1_offer_5 6 rfl rfl)
theorem dX1_offer_125 : decode cX1_offer 125 = .ok (.invokevirtual 145, 3) := dk_182 0 145 (dk_at dksX1_offer_5 8 rfl rfl)
theorem dX1_offer_128 : decode cX1_offer 128 = .ok (.aload_n 0, 1) := dk_42 (dk_at dksX1_offer_5 11 rfl rfl)
theorem dX1_offer_129 : decode cX1_offer 129 = .ok (.getfield 19, 3) := dk_180 0 19 (dk_at dksX1_offer_5 12 rfl rfl)
theorem dX1_offer_132 : decode cX1_offer 132 = .ok (.getfield 139, 3) := dk_180 0 139 (dk_at dksX1_offer_5 15 rfl rfl)
theorem dX1_offer_135 : decode cX1_offer 135 = .ok (.aload 7, 2) := dk_25 7 (dk_at dksX1_offer_5 18 rfl rfl)
theorem dX1_offer_137 : decode cX1_offer 137 = .ok (.invokeinterface 81 2, 5) := by decide +kernel
theorem dX1_offer_142 : decode cX1_offer 142 = .ok (.pop, 1) := dk_87 (dk_at dksX1_offer_6 5 rfl rfl)
theorem dX1_offer_143 : decode cX1_offer 143 = .ok (.aload_n 0, 1) := dk_42 (dk_at dksX1_offer_6 6 rfl rfl)
theorem dX1_offer_144 : decode cX1_offer 144 = .ok (.getfield 19, 3) := dk_180 0 19 (dk_at dksX1_offer_6 7 rfl rfl)
theorem dX1_offer_147 : decode cX1_offer 147 = .ok (.getfield 139, 3) := dk_180 0 139 (dk_at dksX1_offer_6 10 rfl rfl)
theorem dX1_offer_150 : decode cX1_offer 150 = .ok (.invokeinterface 70 1, 5) := by decide +kernel
theorem dX1_offer_155 : decode cX1_offer 155 = .ok (.iconst 1, 1) := dk_4 (dk_at dksX1_offer_6 18 rfl rfl)
theorem dX1_offer_156 : decode cX1_offer 156 = .ok (.isub, 1) := dk_100 (dk_at dksX1_offer_6 19 rfl rfl)
theorem dX1_offer_157 : decode cX1_offer 157 = .ok (.ireturn, 1) := dk_172 (dk_at dksX1_offer_6 20 rfl rfl)
abbrev cX1_match : ByteArray := prog_1_method_57_code
def yX1_match : MethodName := ⟨RX1, "match", "(LGridMarket$Offer;)V"⟩
def dkwX1_match_4 : List UInt8 := [185, 0, 81, 2, 0, 87, 42, 43, 44, 182, 1, 116, 78, 167, 255, 165, 177]
abbrev dktX1_match_4 : List UInt8 := dkwX1_match_4 ++ []
def dkwX1_match_3 : List UInt8 := [180, 1, 124, 187, 1, 127, 89, 25, 5, 25, 4, 45, 180, 1, 107, 21, 6, 183, 1, 129]
abbrev dktX1_match_3 : List UInt8 := dkwX1_match_3 ++ dktX1_match_4
def dkwX1_match_2 : List UInt8 := [45, 58, 5, 42, 25, 4, 25, 5, 182, 1, 120, 54, 6, 21, 6, 158, 0, 33, 42, 180, 0, 19]
abbrev dktX1_match_2 : List UInt8 := dkwX1_match_2 ++ dktX1_match_3
def dkwX1_match_1 : List UInt8 := [180, 1, 103, 153, 0, 7, 45, 167, 0, 4, 43, 58, 4, 43, 180, 1, 103, 153, 0, 7, 43, 167, 0, 4]
abbrev dktX1_match_1 : List UInt8 := dkwX1_match_1 ++ dktX1_match_2
def dkwX1_match_0 : List UInt8 := [16, 60, 188, 4, 77, 42, 43, 44, 182, 1, 116, 78, 43, 180, 0, 149, 158, 0, 90, 45, 198, 0, 86, 43]
abbrev dktX1_match_0 : List UInt8 := dkwX1_match_0 ++ dktX1_match_1
theorem dksX1_match_0 : cX1_match.data.toList.drop 0 = dktX1_match_0 := by decide +kernel
theorem dksX1_match_1 : cX1_match.data.toList.drop 24 = dktX1_match_1 := dk_seg dksX1_match_0 24 rfl rfl
theorem dksX1_match_2 : cX1_match.data.toList.drop 48 = dktX1_match_2 := dk_seg dksX1_match_1 24 rfl rfl
theorem dksX1_match_3 : cX1_match.data.toList.drop 70 = dktX1_match_3 := dk_seg dksX1_match_2 22 rfl rfl
theorem dksX1_match_4 : cX1_match.data.toList.drop 90 = dktX1_match_4 := dk_seg dksX1_match_3 20 rfl rfl
theorem dX1_match_0 : decode cX1_match 0 = .ok (.bipush 60, 2) := dk_16 60 (dk_at dksX1_match_0 0 rfl rfl)
theorem dX1_match_2 : decode cX1_match 2 = .ok (.newarray .boolean, 2) := dk_188_4 (dk_at dksX1_match_0 2 rfl rfl)
theorem dX1_match_4 : decode cX1_match 4 = .ok (.astore_n 2, 1) := dk_77 (dk_at dksX1_match_0 4 rfl rfl)
theorem dX1_match_5 : decode cX1_match 5 = .ok (.aload_n 0, 1) := dk_42 (dk_at dksX1_match_0 5 rfl rfl)
theorem dX1_match_6 : decode cX1_match 6 = .ok (.aload_n 1, 1) := dk_43 (dk_at dksX1_match_0 6 rfl rfl)
theorem dX1_match_7 : decode cX1_match 7 = .ok (.aload_n 2, 1) := dk_44 (dk_at dksX1_match_0 7 rfl rfl)
theorem dX1_match_8 : decode cX1_match 8 = .ok (.invokevirtual 372, 3) := dk_182 1 116 (dk_at dksX1_match_0 8 rfl rfl)
theorem dX1_match_11 : decode cX1_match 11 = .ok (.astore_n 3, 1) := dk_78 (dk_at dksX1_match_0 11 rfl rfl)
theorem dX1_match_12 : decode cX1_match 12 = .ok (.aload_n 1, 1) := dk_43 (dk_at dksX1_match_0 12 rfl rfl)
theorem dX1_match_13 : decode cX1_match 13 = .ok (.getfield 149, 3) := dk_180 0 149 (dk_at dksX1_match_0 13 rfl rfl)
theorem dX1_match_16 : decode cX1_match 16 = .ok (.ifCond .le 90, 3) := dk_158 0 90 (dk_at dksX1_match_0 16 rfl rfl)
theorem dX1_match_19 : decode cX1_match 19 = .ok (.aload_n 3, 1) := dk_45 (dk_at dksX1_match_0 19 rfl rfl)
theorem dX1_match_20 : decode cX1_match 20 = .ok (.ifnull 86, 3) := dk_198 0 86 (dk_at dksX1_match_0 20 rfl rfl)
theorem dX1_match_23 : decode cX1_match 23 = .ok (.aload_n 1, 1) := dk_43 (dk_at dksX1_match_0 23 rfl rfl)
theorem dX1_match_24 : decode cX1_match 24 = .ok (.getfield 359, 3) := dk_180 1 103 (dk_at dksX1_match_1 0 rfl rfl)
theorem dX1_match_27 : decode cX1_match 27 = .ok (.ifCond .eq 7, 3) := dk_153 0 7 (dk_at dksX1_match_1 3 rfl rfl)
theorem dX1_match_30 : decode cX1_match 30 = .ok (.aload_n 3, 1) := dk_45 (dk_at dksX1_match_1 6 rfl rfl)
theorem dX1_match_31 : decode cX1_match 31 = .ok (.goto 4, 3) := dk_167 0 4 (dk_at dksX1_match_1 7 rfl rfl)
theorem dX1_match_34 : decode cX1_match 34 = .ok (.aload_n 1, 1) := dk_43 (dk_at dksX1_match_1 10 rfl rfl)
theorem dX1_match_35 : decode cX1_match 35 = .ok (.astore 4, 2) := dk_58 4 (dk_at dksX1_match_1 11 rfl rfl)
theorem dX1_match_37 : decode cX1_match 37 = .ok (.aload_n 1, 1) := dk_43 (dk_at dksX1_match_1 13 rfl rfl)
theorem dX1_match_38 : decode cX1_match 38 = .ok (.getfield 359, 3) := dk_180 1 103 (dk_at dksX1_match_1 14 rfl rfl)
theorem dX1_match_41 : decode cX1_match 41 = .ok (.ifCond .eq 7, 3) := dk_153 0 7 (dk_at dksX1_match_1 17 rfl rfl)
theorem dX1_match_44 : decode cX1_match 44 = .ok (.aload_n 1, 1) := dk_43 (dk_at dksX1_match_1 20 rfl rfl)
theorem dX1_match_45 : decode cX1_match 45 = .ok (.goto 4, 3) := dk_167 0 4 (dk_at dksX1_match_1 21 rfl rfl)
theorem dX1_match_48 : decode cX1_match 48 = .ok (.aload_n 3, 1) := dk_45 (dk_at dksX1_match_2 0 rfl rfl)
theorem dX1_match_49 : decode cX1_match 49 = .ok (.astore 5, 2) := dk_58 5 (dk_at dksX1_match_2 1 rfl rfl)
theorem dX1_match_51 : decode cX1_match 51 = .ok (.aload_n 0, 1) := dk_42 (dk_at dksX1_match_2 3 rfl rfl)
theorem dX1_match_52 : decode cX1_match 52 = .ok (.aload 4, 2) := dk_25 4 (dk_at dksX1_match_2 4 rfl rfl)
theorem dX1_match_54 : decode cX1_match 54 = .ok (.aload 5, 2) := dk_25 5 (dk_at dksX1_match_2 6 rfl rfl)
theorem dX1_match_56 : decode cX1_match 56 = .ok (.invokevirtual 376, 3) := dk_182 1 120 (dk_at dksX1_match_2 8 rfl rfl)
theorem dX1_match_59 : decode cX1_match 59 = .ok (.istore 6, 2) := dk_54 6 (dk_at dksX1_match_2 11 rfl rfl)
theorem dX1_match_61 : decode cX1_match 61 = .ok (.iload 6, 2) := dk_21 6 (dk_at dksX1_match_2 13 rfl rfl)
theorem dX1_match_63 : decode cX1_match 63 = .ok (.ifCond .le 33, 3) := dk_158 0 33 (dk_at dksX1_match_2 15 rfl rfl)
theorem dX1_match_66 : decode cX1_match 66 = .ok (.aload_n 0, 1) := dk_42 (dk_at dksX1_match_2 18 rfl rfl)
theorem dX1_match_67 : decode cX1_match 67 = .ok (.getfield 19, 3) := dk_180 0 19 (dk_at dksX1_match_2 19 rfl rfl)
theorem dX1_match_70 : decode cX1_match 70 = .ok (.getfield 380, 3) := dk_180 1 124 (dk_at dksX1_match_3 0 rfl rfl)
theorem dX1_match_73 : decode cX1_match 73 = .ok (.new 383, 3) := dk_187 1 127 (dk_at dksX1_match_3 3 rfl rfl)
theorem dX1_match_76 : decode cX1_match 76 = .ok (.dup, 1) := dk_89 (dk_at dksX1_match_3 6 rfl rfl)
theorem dX1_match_77 : decode cX1_match 77 = .ok (.aload 5, 2) := dk_25 5 (dk_at dksX1_match_3 7 rfl rfl)
theorem dX1_match_79 : decode cX1_match 79 = .ok (.aload 4, 2) := dk_25 4 (dk_at dksX1_match_3 9 rfl rfl)
theorem dX1_match_81 : decode cX1_match 81 = .ok (.aload_n 3, 1) := dk_45 (dk_at dksX1_match_3 11 rfl rfl)
theorem dX1_match_82 : decode cX1_match 82 = .ok (.getfield 363, 3) := dk_180 1 107 (dk_at dksX1_match_3 12 rfl rfl)
theorem dX1_match_85 : decode cX1_match 85 = .ok (.iload 6, 2) := dk_21 6 (dk_at dksX1_match_3 15 rfl rfl)
theorem dX1_match_87 : decode cX1_match 87 = .ok (.invokespecial 385, 3) := dk_183 1 129 (dk_at dksX1_match_3 17 rfl rfl)
theorem dX1_match_90 : decode cX1_match 90 = .ok (.invokeinterface 81 2, 5) := by decide +kernel
theorem dX1_match_95 : decode cX1_match 95 = .ok (.pop, 1) := dk_87 (dk_at dksX1_match_4 5 rfl rfl)
theorem dX1_match_96 : decode cX1_match 96 = .ok (.aload_n 0, 1) := dk_42 (dk_at dksX1_match_4 6 rfl rfl)
theorem dX1_match_97 : decode cX1_match 97 = .ok (.aload_n 1, 1) := dk_43 (dk_at dksX1_match_4 7 rfl rfl)
theorem dX1_match_98 : decode cX1_match 98 = .ok (.aload_n 2, 1) := dk_44 (dk_at dksX1_match_4 8 rfl rfl)
theorem dX1_match_99 : decode cX1_match 99 = .ok (.invokevirtual 372, 3) := dk_182 1 116 (dk_at dksX1_match_4 9 rfl rfl)
theorem dX1_match_102 : decode cX1_match 102 = .ok (.astore_n 3, 1) := dk_78 (dk_at dksX1_match_4 12 rfl rfl)
theorem dX1_match_103 : decode cX1_match 103 = .ok (.goto (-91), 3) := dk_167 255 165 (dk_at dksX1_match_4 13 rfl rfl)
theorem dX1_match_106 : decode cX1_match 106 = .ok (.return_, 1) := dk_177 (dk_at dksX1_match_4 16 rfl rfl)
abbrev cX1_bestFor : ByteArray := prog_1_method_54_code
def yX1_bestFor : MethodName := ⟨RX1, "bestFor", "(LGridMarket$Offer;[Z)LGridMarket$Offer;"⟩
def dkwX1_bestFor_11 : List UInt8 := [160, 0, 7, 1, 167, 0, 19, 42, 180, 0, 19, 180, 0, 139, 29, 185, 0, 91, 2, 0, 192, 0, 142, 176]
abbrev dktX1_bestFor_11 : List UInt8 := dkwX1_bestFor_11 ++ []
def dkwX1_bestFor_10 : List UInt8 := [167, 0, 4, 29, 62, 132, 4, 1, 167, 255, 20, 29, 2, 159, 0, 7, 44, 29, 4, 84, 29, 2]
abbrev dktX1_bestFor_10 : List UInt8 := dkwX1_bestFor_10 ++ dktX1_bestFor_11
def dkwX1_bestFor_9 : List UInt8 := [192, 0, 142, 180, 1, 107, 164, 0, 7, 4, 167, 0, 4, 3, 54, 7, 21, 7, 153, 0, 8, 21, 4]
abbrev dktX1_bestFor_9 : List UInt8 := dkwX1_bestFor_9 ++ dktX1_bestFor_10
def dkwX1_bestFor_8 : List UInt8 := [162, 0, 37, 167, 0, 30, 25, 5, 180, 1, 107, 42, 180, 0, 19, 180, 0, 139, 29, 185, 0, 91, 2, 0]
abbrev dktX1_bestFor_8 : List UInt8 := dkwX1_bestFor_8 ++ dktX1_bestFor_9
def dkwX1_bestFor_7 : List UInt8 := [25, 5, 180, 1, 107, 42, 180, 0, 19, 180, 0, 139, 29, 185, 0, 91, 2, 0, 192, 0, 142, 180, 1, 107]
abbrev dktX1_bestFor_7 : List UInt8 := dkwX1_bestFor_7 ++ dktX1_bestFor_8
def dkwX1_bestFor_6 : List UInt8 := [167, 0, 4, 3, 54, 6, 21, 6, 153, 0, 76, 29, 2, 159, 0, 67, 43, 180, 1, 103, 153, 0, 33]
abbrev dktX1_bestFor_6 : List UInt8 := dkwX1_bestFor_6 ++ dktX1_bestFor_7
def dkwX1_bestFor_5 : List UInt8 := [43, 180, 1, 107, 163, 0, 22, 167, 0, 15, 25, 5, 180, 1, 107, 43, 180, 1, 107, 161, 0, 7, 4]
abbrev dktX1_bestFor_5 : List UInt8 := dkwX1_bestFor_5 ++ dktX1_bestFor_6
def dkwX1_bestFor_4 : List UInt8 := [4, 167, 0, 4, 3, 54, 6, 21, 6, 153, 0, 41, 43, 180, 1, 103, 153, 0, 18, 25, 5, 180, 1, 107]
abbrev dktX1_bestFor_4 : List UInt8 := dkwX1_bestFor_4 ++ dktX1_bestFor_5
def dkwX1_bestFor_3 : List UInt8 := [25, 5, 180, 1, 103, 43, 180, 1, 103, 159, 0, 19, 25, 5, 180, 1, 104, 43, 180, 1, 104, 159, 0, 7]
abbrev dktX1_bestFor_3 : List UInt8 := dkwX1_bestFor_3 ++ dktX1_bestFor_4
def dkwX1_bestFor_2 : List UInt8 := [154, 0, 51, 25, 5, 180, 0, 149, 158, 0, 43, 25, 5, 180, 1, 102, 43, 180, 1, 102, 160, 0, 31]
abbrev dktX1_bestFor_2 : List UInt8 := dkwX1_bestFor_2 ++ dktX1_bestFor_3
def dkwX1_bestFor_1 : List UInt8 := [180, 0, 19, 180, 0, 139, 21, 4, 185, 0, 91, 2, 0, 192, 0, 142, 58, 5, 44, 21, 4, 51]
abbrev dktX1_bestFor_1 : List UInt8 := dkwX1_bestFor_1 ++ dktX1_bestFor_2
def dkwX1_bestFor_0 : List UInt8 := [2, 62, 3, 54, 4, 21, 4, 42, 180, 0, 19, 180, 0, 139, 185, 0, 70, 1, 0, 162, 0, 225, 42]
abbrev dktX1_bestFor_0 : List UInt8 := dkwX1_bestFor_0 ++ dktX1_bestFor_1
theorem dksX1_bestFor_0 : cX1_bestFor.data.toList.drop 0 = dktX1_bestFor_0 := by decide +kernel
theorem dksX1_bestFor_1 : cX1_bestFor.data.toList.drop 23 = dktX1_bestFor_1 := dk_seg dksX1_bestFor_0 23 rfl rfl
theorem dksX1_bestFor_2 : cX1_bestFor.data.toList.drop 45 = dktX1_bestFor_2 := dk_seg dksX1_bestFor_1 22 rfl rfl
theorem dksX1_bestFor_3 : cX1_bestFor.data.toList.drop 68 = dktX1_bestFor_3 := dk_seg dksX1_bestFor_2 23 rfl rfl
theorem dksX1_bestFor_4 : cX1_bestFor.data.toList.drop 92 = dktX1_bestFor_4 := dk_seg dksX1_bestFor_3 24 rfl rfl
theorem dksX1_bestFor_5 : cX1_bestFor.data.toList.drop 116 = dktX1_bestFor_5 := dk_seg dksX1_bestFor_4 24 rfl rfl
theorem dksX1_bestFor_6 : cX1_bestFor.data.toList.drop 139 = dktX1_bestFor_6 := dk_seg dksX1_bestFor_5 23 rfl rfl
theorem dksX1_bestFor_7 : cX1_bestFor.data.toList.drop 162 = dktX1_bestFor_7 := dk_seg dksX1_bestFor_6 23 rfl rfl
theorem dksX1_bestFor_8 : cX1_bestFor.data.toList.drop 186 = dktX1_bestFor_8 := dk_seg dksX1_bestFor_7 24 rfl rfl
theorem dksX1_bestFor_9 : cX1_bestFor.data.toList.drop 210 = dktX1_bestFor_9 := dk_seg dksX1_bestFor_8 24 rfl rfl
theorem dksX1_bestFor_10 : cX1_bestFor.data.toList.drop 233 = dktX1_bestFor_10 := dk_seg dksX1_bestFor_9 23 rfl rfl
theorem dksX1_bestFor_11 : cX1_bestFor.data.toList.drop 255 = dktX1_bestFor_11 := dk_seg dksX1_bestFor_10 22 rfl rfl
theorem dX1_bestFor_0 : decode cX1_bestFor 0 = .ok (.iconst (-1), 1) := dk_2 (dk_at dksX1_bestFor_0 0 rfl rfl)
theorem dX1_bestFor_1 : decode cX1_bestFor 1 = .ok (.istore_n 3, 1) := dk_62 (dk_at dksX1_bestFor_0 1 rfl rfl)
theorem dX1_bestFor_2 : decode cX1_bestFor 2 = .ok (.iconst 0, 1) := dk_3 (dk_at dksX1_bestFor_0 2 rfl rfl)
theorem dX1_bestFor_3 : decode cX1_bestFor 3 = .ok (.istore 4, 2) := dk_54 4 (dk_at dksX1_bestFor_0 3 rfl rfl)
theorem dX1_bestFor_5 : decode cX1_bestFor 5 = .ok (.iload 4, 2) := dk_21 4 (dk_at dksX1_bestFor_0 5 rfl rfl)
theorem dX1_bestFor_7 : decode cX1_bestFor 7 = .ok (.aload_n 0, 1) := dk_42 (dk_at dksX1_bestFor_0 7 rfl rfl)
theorem dX1_bestFor_8 : decode cX1_bestFor 8 = .ok (.getfield 19, 3) := dk_180 0 19 (dk_at dksX1_bestFor_0 8 rfl rfl)
theorem dX1_bestFor_11 : decode cX1_bestFor 11 = .ok (.getfield 139, 3) := dk_180 0 139 (dk_at dksX1_bestFor_0 11 rfl rfl)
theorem dX1_bestFor_14 : decode cX1_bestFor 14 = .ok (.invokeinterface 70 1, 5) := by decide +kernel
theorem dX1_bestFor_19 : decode cX1_bestFor 19 = .ok (.if_icmp .ge 225, 3) := dk_162 0 225 (dk_at dksX1_bestFor_0 19 rfl rfl)
theorem dX1_bestFor_22 : decode cX1_bestFor 22 = .ok (.aload_n 0, 1) := dk_42 (dk_at dksX1_bestFor_0 22 rfl rfl)
theorem dX1_bestFor_23 : decode cX1_bestFor 23 = .ok (.getfield 19, 3) := dk_180 0 19 (dk_at dksX1_bestFor_1 0 rfl rfl)
theorem dX1_bestFor_26 : decode cX1_bestFor 26 = .ok (.getfield 139, 3) := dk_180 0 139 (dk_at dksX1_bestFor_1 3 rfl rfl)
theorem dX1_bestFor_29 : decode cX1_bestFor 29 = .ok (.iload 4, 2) := dk_21 4 (dk_at dksX1_bestFor_1 6 rfl rfl)
theorem dX1_bestFor_31 : decode cX1_bestFor 31 = .ok (.invokeinterface 91 2, 5) := by decide +kernel
theorem dX1_bestFor_36 : decode cX1_bestFor 36 = .ok (.checkcast 142, 3) := dk_192 0 142 (dk_at dksX1_bestFor_1 13 rfl rfl)
theorem dX1_bestFor_39 : decode cX1_bestFor 39 = .ok (.astore 5, 2) := dk_58 5 (dk_at dksX1_bestFor_1 16 rfl rfl)
theorem dX1_bestFor_41 : decode cX1_bestFor 41 = .ok (.aload_n 2, 1) := dk_44 (dk_at dksX1_bestFor_1 18 rfl rfl)
theorem dX1_bestFor_42 : decode cX1_bestFor 42 = .ok (.iload 4, 2) := dk_21 4 (dk_at dksX1_bestFor_1 19 rfl rfl)
theorem dX1_bestFor_44 : decode cX1_bestFor 44 = .ok (.baload, 1) := dk_51 (dk_at dksX1_bestFor_1 21 rfl rfl)
theorem dX1_bestFor_45 : decode cX1_bestFor 45 = .ok (.ifCond .ne 51, 3) := dk_154 0 51 (dk_at dksX1_bestFor_2 0 rfl rfl)
theorem dX1_bestFor_48 : decode cX1_bestFor 48 = .ok (.aload 5, 2) := dk_25 5 (dk_at dksX1_bestFor_2 3 rfl rfl)
theorem dX1_bestFor_50 : decode cX1_bestFor 50 = .ok (.getfield 149, 3) := dk_180 0 149 (dk_at dksX1_bestFor_2 5 rfl rfl)
theorem dX1_bestFor_53 : decode cX1_bestFor 53 = .ok (.ifCond .le 43, 3) := dk_158 0 43 (dk_at dksX1_bestFor_2 8 rfl rfl)
theorem dX1_bestFor_56 : decode cX1_bestFor 56 = .ok (.aload 5, 2) := dk_25 5 (dk_at dksX1_bestFor_2 11 rfl rfl)
theorem dX1_bestFor_58 : decode cX1_bestFor 58 = .ok (.getfield 358, 3) := dk_180 1 102 (dk_at dksX1_bestFor_2 13 rfl rfl)
theorem dX1_bestFor_61 : decode cX1_bestFor 61 = .ok (.aload_n 1, 1) := dk_43 (dk_at dksX1_bestFor_2 16 rfl rfl)
theorem dX1_bestFor_62 : decode cX1_bestFor 62 = .ok (.getfield 358, 3) := dk_180 1 102 (dk_at dksX1_bestFor_2 17 rfl rfl)
theorem dX1_bestFor_65 : decode cX1_bestFor 65 = .ok (.if_icmp .ne 31, 3) := dk_160 0 31 (dk_at dksX1_bestFor_2 20 rfl rfl)
theorem dX1_bestFor_68 : decode cX1_bestFor 68 = .ok (.aload 5, 2) := dk_25 5 (dk_at dksX1_bestFor_3 0 rfl rfl)
theorem dX1_bestFor_70 : decode cX1_bestFor 70 = .ok (.getfield 359, 3) := dk_180 1 103 (dk_at dksX1_bestFor_3 2 rfl rfl)
theorem dX1_bestFor_73 : decode cX1_bestFor 73 = .ok (.aload_n 1, 1) := dk_43 (dk_at dksX1_bestFor_3 5 rfl rfl)
theorem dX1_bestFor_74 : decode cX1_bestFor 74 = .ok (.getfield 359, 3) := dk_180 1 103 (dk_at dksX1_bestFor_3 6 rfl rfl)
theorem dX1_bestFor_77 : decode cX1_bestFor 77 = .ok (.if_icmp .eq 19, 3) := dk_159 0 19 (dk_at dksX1_bestFor_3 9 rfl rfl)
theorem dX1_bestFor_80 : decode cX1_bestFor 80 = .ok (.aload 5, 2) := dk_25 5 (dk_at dksX1_bestFor_3 12 rfl rfl)
theorem dX1_bestFor_82 : decode cX1_bestFor 82 = .ok (.getfield 360, 3) := dk_180 1 104 (dk_at dksX1_bestFor_3 14 rfl rfl)
theorem dX1_bestFor_85 : decode cX1_bestFor 85 = .ok (.aload_n 1, 1) := dk_43 (dk_at dksX1_bestFor_3 17 rfl rfl)
theorem dX1_bestFor_86 : decode cX1_bestFor 86 = .ok (.getfield 360, 3) := dk_180 1 104 (dk_at dksX1_bestFor_3 18 rfl rfl)
theorem dX1_bestFor_89 : decode cX1_bestFor 89 = .ok (.if_icmp .eq 7, 3) := dk_159 0 7 (dk_at dksX1_bestFor_3 21 rfl rfl)
theorem dX1_bestFor_92 : decode cX1_bestFor 92 = .ok (.iconst 1, 1) := dk_4 (dk_at dksX1_bestFor_4 0 rfl rfl)
theorem dX1_bestFor_93 : decode cX1_bestFor 93 = .ok (.goto 4, 3) := dk_167 0 4 (dk_at dksX1_bestFor_4 1 rfl rfl)
theorem dX1_bestFor_96 : decode cX1_bestFor 96 = .ok (.iconst 0, 1) := dk_3 (dk_at dksX1_bestFor_4 4 rfl rfl)
theorem dX1_bestFor_97 : decode cX1_bestFor 97 = .ok (.istore 6, 2) := dk_54 6 (dk_at dksX1_bestFor_4 5 rfl rfl)
theorem dX1_bestFor_99 : decode cX1_bestFor 99 = .ok (.iload 6, 2) := dk_21 6 (dk_at dksX1_bestFor_4 7 rfl rfl)
theorem dX1_bestFor_101 : decode cX1_bestFor 101 = .ok (.ifCond .eq 41, 3) := dk_153 0 41 (dk_at dksX1_bestFor_4 9 rfl rfl)
theorem dX1_bestFor_104 : decode cX1_bestFor 104 = .ok (.aload_n 1, 1) := dk_43 (dk_at dksX1_bestFor_4 12 rfl rfl)
theorem dX1_bestFor_105 : decode cX1_bestFor 105 = .ok (.getfield 359, 3) := dk_180 1 103 (dk_at dksX1_bestFor_4 13 rfl rfl)
theorem dX1_bestFor_108 : decode cX1_bestFor 108 = .ok (.ifCond .eq 18, 3) := dk_153 0 18 (dk_at dksX1_bestFor_4 16 rfl rfl)
theorem dX1_bestFor_111 : decode cX1_bestFor 111 = .ok (.aload 5, 2) := dk_25 5 (dk_at dksX1_bestFor_4 19 rfl rfl)
theorem dX1_bestFor_113 : decode cX1_bestFor 113 = .ok (.getfield 363, 3) := dk_180 1 107 (dk_at dksX1_bestFor_4 21 rfl rfl)
theorem dX1_bestFor_116 : decode cX1_bestFor 116 = .ok (.aload_n 1, 1) := dk_43 (dk_at dksX1_bestFor_5 0 rfl rfl)
theorem dX1_bestFor_117 : decode cX1_bestFor 117 = .ok (.getfield 363, 3) := dk_180 1 107 (dk_at dksX1_bestFor_5 1 rfl rfl)
theorem dX1_bestFor_120 : decode cX1_bestFor 120 = .ok (.if_icmp .gt 22, 3) := dk_163 0 22 (dk_at dksX1_bestFor_5 4 rfl rfl)
theorem dX1_bestFor_123 : decode cX1_bestFor 123 = .ok (.goto 15, 3) := dk_167 0 15 (dk_at dksX1_bestFor_5 7 rfl rfl)
theorem dX1_bestFor_126 : decode cX1_bestFor 126 = .ok (.aload 5, 2) := dk_25 5 (dk_at dksX1_bestFor_5 10 rfl rfl)
theorem dX1_bestFor_128 : decode cX1_bestFor 128 = .ok (.getfield 363, 3) := dk_180 1 107 (dk_at dksX1_bestFor_5 12 rfl rfl)
theorem dX1_bestFor_131 : decode cX1_bestFor 131 = .ok (.aload_n 1, 1) := dk_43 (dk_at dksX1_bestFor_5 15 rfl rfl)
theorem dX1_bestFor_132 : decode cX1_bestFor 132 = .ok (.getfield 363, 3) := dk_180 1 107 (dk_at dksX1_bestFor_5 16 rfl rfl)
theorem dX1_bestFor_135 : decode cX1_bestFor 135 = .ok (.if_icmp .lt 7, 3) := dk_161 0 7 (dk_at dksX1_bestFor_5 19 rfl rfl)
theorem dX1_bestFor_138 : decode cX1_bestFor 138 = .ok (.iconst 1, 1) := dk_4 (dk_at dksX1_bestFor_5 22 rfl rfl)
theorem dX1_bestFor_139 : decode cX1_bestFor 139 = .ok (.goto 4, 3) := dk_167 0 4 (dk_at dksX1_bestFor_6 0 rfl rfl)
theorem dX1_bestFor_142 : decode cX1_bestFor 142 = .ok (.iconst 0, 1) := dk_3 (dk_at dksX1_bestFor_6 3 rfl rfl)
theorem dX1_bestFor_143 : decode cX1_bestFor 143 = .ok (.istore 6, 2) := dk_54 6 (dk_at dksX1_bestFor_6 4 rfl rfl)
theorem dX1_bestFor_145 : decode cX1_bestFor 145 = .ok (.iload 6, 2) := dk_21 6 (dk_at dksX1_bestFor_6 6 rfl rfl)
theorem dX1_bestFor_147 : decode cX1_bestFor 147 = .ok (.ifCond .eq 76, 3) := dk_153 0 76 (dk_at dksX1_bestFor_6 8 rfl rfl)
theorem dX1_bestFor_150 : decode cX1_bestFor 150 = .ok (.iload_n 3, 1) := dk_29 (dk_at dksX1_bestFor_6 11 rfl rfl)
theorem dX1_bestFor_151 : decode cX1_bestFor 151 = .ok (.iconst (-1), 1) := dk_2 (dk_at dksX1_bestFor_6 12 rfl rfl)
theorem dX1_bestFor_152 : decode cX1_bestFor 152 = .ok (.if_icmp .eq 67, 3) := dk_159 0 67 (dk_at dksX1_bestFor_6 13 rfl rfl)
theorem dX1_bestFor_155 : decode cX1_bestFor 155 = .ok (.aload_n 1, 1) := dk_43 (dk_at dksX1_bestFor_6 16 rfl rfl)
theorem dX1_bestFor_156 : decode cX1_bestFor 156 = .ok (.getfield 359, 3) := dk_180 1 103 (dk_at dksX1_bestFor_6 17 rfl rfl)
theorem dX1_bestFor_159 : decode cX1_bestFor 159 = .ok (.ifCond .eq 33, 3) := dk_153 0 33 (dk_at dksX1_bestFor_6 20 rfl rfl)
theorem dX1_bestFor_162 : decode cX1_bestFor 162 = .ok (.aload 5, 2) := dk_25 5 (dk_at dksX1_bestFor_7 0 rfl rfl)
theorem dX1_bestFor_164 : decode cX1_bestFor 164 = .ok (.getfield 363, 3) := dk_180 1 107 (dk_at dksX1_bestFor_7 2 rfl rfl)
theorem dX1_bestFor_167 : decode cX1_bestFor 167 = .ok (.aload_n 0, 1) := dk_42 (dk_at dksX1_bestFor_7 5 rfl rfl)
theorem dX1_bestFor_168 : decode cX1_bestFor 168 = .ok (.getfield 19, 3) := dk_180 0 19 (dk_at dksX1_bestFor_7 6 rfl rfl)
theorem dX1_bestFor_171 : decode cX1_bestFor 171 = .ok (.getfield 139, 3) := dk_180 0 139 (dk_at dksX1_bestFor_7 9 rfl rfl)
theorem dX1_bestFor_174 : decode cX1_bestFor 174 = .ok (.iload_n 3, 1) := dk_29 (dk_at dksX1_bestFor_7 12 rfl rfl)
theorem dX1_bestFor_175 : decode cX1_bestFor 175 = .ok (.invokeinterface 91 2, 5) := by decide +kernel
theorem dX1_bestFor_180 : decode cX1_bestFor 180 = .ok (.checkcast 142, 3) := dk_192 0 142 (dk_at dksX1_bestFor_7 18 rfl rfl)
theorem dX1_bestFor_183 : decode cX1_bestFor 183 = .ok (.getfield 363, 3) := dk_180 1 107 (dk_at dksX1_bestFor_7 21 rfl rfl)
theorem dX1_bestFor_186 : decode cX1_bestFor 186 = .ok (.if_icmp .ge 37, 3) := dk_162 0 37 (dk_at dksX1_bestFor_8 0 rfl rfl)
theorem dX1_bestFor_189 : decode cX1_bestFor 189 = .ok (.goto 30, 3) := dk_167 0 30 (dk_at dksX1_bestFor_8 3 rfl rfl)
theorem dX1_bestFor_192 : decode cX1_bestFor 192 = .ok (.aload 5, 2) := dk_25 5 (dk_at dksX1_bestFor_8 6 rfl rfl)
theorem dX1_bestFor_194 : decode cX1_bestFor 194 = .ok (.getfield 363, 3) := dk_180 1 107 (dk_at dksX1_bestFor_8 8 rfl rfl)
theorem dX1_bestFor_197 : decode cX1_bestFor 197 = .ok (.aload_n 0, 1) := dk_42 (dk_at dksX1_bestFor_8 11 rfl rfl)
theorem dX1_bestFor_198 : decode cX1_bestFor 198 = .ok (.getfield 19, 3) := dk_180 0 19 (dk_at dksX1_bestFor_8 12 rfl rfl)
theorem dX1_bestFor_201 : decode cX1_bestFor 201 = .ok (.getfield 139, 3) := dk_180 0 139 (dk_at dksX1_bestFor_8 15 rfl rfl)
theorem dX1_bestFor_204 : decode cX1_bestFor 204 = .ok (.iload_n 3, 1) := dk_29 (dk_at dksX1_bestFor_8 18 rfl rfl)
theorem dX1_bestFor_205 : decode cX1_bestFor 205 = .ok (.invokeinterface 91 2, 5) := by decide +kernel
theorem dX1_bestFor_210 : decode cX1_bestFor 210 = .ok (.checkcast 142, 3) := dk_192 0 142 (dk_at dksX1_bestFor_9 0 rfl rfl)
theorem dX1_bestFor_213 : decode cX1_bestFor 213 = .ok (.getfield 363, 3) := dk_180 1 107 (dk_at dksX1_bestFor_9 3 rfl rfl)
theorem dX1_bestFor_216 : decode cX1_bestFor 216 = .ok (.if_icmp .le 7, 3) := dk_164 0 7 (dk_at dksX1_bestFor_9 6 rfl rfl)
theorem dX1_bestFor_219 : decode cX1_bestFor 219 = .ok (.iconst 1, 1) := dk_4 (dk_at dksX1_bestFor_9 9 rfl rfl)
theorem dX1_bestFor_220 : decode cX1_bestFor 220 = .ok (.goto 4, 3) := dk_167 0 4 (dk_at dksX1_bestFor_9 10 rfl rfl)
theorem dX1_bestFor_223 : decode cX1_bestFor 223 = .ok (.iconst 0, 1) := dk_3 (dk_at dksX1_bestFor_9 13 rfl rfl)
theorem dX1_bestFor_224 : decode cX1_bestFor 224 = .ok (.istore 7, 2) := dk_54 7 (dk_at dksX1_bestFor_9 14 rfl rfl)
theorem dX1_bestFor_226 : decode cX1_bestFor 226 = .ok (.iload 7, 2) := dk_21 7 (dk_at dksX1_bestFor_9 16 rfl rfl)
theorem dX1_bestFor_228 : decode cX1_bestFor 228 = .ok (.ifCond .eq 8, 3) := dk_153 0 8 (dk_at dksX1_bestFor_9 18 rfl rfl)
theorem dX1_bestFor_231 : decode cX1_bestFor 231 = .ok (.iload 4, 2) := dk_21 4 (dk_at dksX1_bestFor_9 21 rfl rfl)
theorem dX1_bestFor_233 : decode cX1_bestFor 233 = .ok (.goto 4, 3) := dk_167 0 4 (dk_at dksX1_bestFor_10 0 rfl rfl)
theorem dX1_bestFor_236 : decode cX1_bestFor 236 = .ok (.iload_n 3, 1) := dk_29 (dk_at dksX1_bestFor_10 3 rfl rfl)
theorem dX1_bestFor_237 : decode cX1_bestFor 237 = .ok (.istore_n 3, 1) := dk_62 (dk_at dksX1_bestFor_10 4 rfl rfl)
theorem dX1_bestFor_238 : decode cX1_bestFor 238 = .ok (.iinc 4 1, 3) := dk_132 4 1 (dk_at dksX1_bestFor_10 5 rfl rfl)
theorem dX1_bestFor_241 : decode cX1_bestFor 241 = .ok (.goto (-236), 3) := dk_167 255 20 (dk_at dksX1_bestFor_10 8 rfl rfl)
theorem dX1_bestFor_244 : decode cX1_bestFor 244 = .ok (.iload_n 3, 1) := dk_29 (dk_at dksX1_bestFor_10 11 rfl rfl)
theorem dX1_bestFor_245 : decode cX1_bestFor 245 = .ok (.iconst (-1), 1) := dk_2 (dk_at dksX1_bestFor_10 12 rfl rfl)
theorem dX1_bestFor_246 : decode cX1_bestFor 246 = .ok (.if_icmp .eq 7, 3) := dk_159 0 7 (dk_at dksX1_bestFor_10 13 rfl rfl)
theorem dX1_bestFor_249 : decode cX1_bestFor 249 = .ok (.aload_n 2, 1) := dk_44 (dk_at dksX1_bestFor_10 16 rfl rfl)
theorem dX1_bestFor_250 : decode cX1_bestFor 250 = .ok (.iload_n 3, 1) := dk_29 (dk_at dksX1_bestFor_10 17 rfl rfl)
theorem dX1_bestFor_251 : decode cX1_bestFor 251 = .ok (.iconst 1, 1) := dk_4 (dk_at dksX1_bestFor_10 18 rfl rfl)
theorem dX1_bestFor_252 : decode cX1_bestFor 252 = .ok (.bastore, 1) := dk_84 (dk_at dksX1_bestFor_10 19 rfl rfl)
theorem dX1_bestFor_253 : decode cX1_bestFor 253 = .ok (.iload_n 3, 1) := dk_29 (dk_at dksX1_bestFor_10 20 rfl rfl)
theorem dX1_bestFor_254 : decode cX1_bestFor 254 = .ok (.iconst (-1), 1) := dk_2 (dk_at dksX1_bestFor_10 21 rfl rfl)
theorem dX1_bestFor_255 : decode cX1_bestFor 255 = .ok (.if_icmp .ne 7, 3) := dk_160 0 7 (dk_at dksX1_bestFor_11 0 rfl rfl)
theorem dX1_bestFor_258 : decode cX1_bestFor 258 = .ok (.aconst_null, 1) := dk_1 (dk_at dksX1_bestFor_11 3 rfl rfl)
theorem dX1_bestFor_259 : decode cX1_bestFor 259 = .ok (.goto 19, 3) := dk_167 0 19 (dk_at dksX1_bestFor_11 4 rfl rfl)
theorem dX1_bestFor_262 : decode cX1_bestFor 262 = .ok (.aload_n 0, 1) := dk_42 (dk_at dksX1_bestFor_11 7 rfl rfl)
theorem dX1_bestFor_263 : decode cX1_bestFor 263 = .ok (.getfield 19, 3) := dk_180 0 19 (dk_at dksX1_bestFor_11 8 rfl rfl)
theorem dX1_bestFor_266 : decode cX1_bestFor 266 = .ok (.getfield 139, 3) := dk_180 0 139 (dk_at dksX1_bestFor_11 11 rfl rfl)
theorem dX1_bestFor_269 : decode cX1_bestFor 269 = .ok (.iload_n 3, 1) := dk_29 (dk_at dksX1_bestFor_11 14 rfl rfl)
theorem dX1_bestFor_270 : decode cX1_bestFor 270 = .ok (.invokeinterface 91 2, 5) := by decide +kernel
theorem dX1_bestFor_275 : decode cX1_bestFor 275 = .ok (.checkcast 142, 3) := dk_192 0 142 (dk_at dksX1_bestFor_11 20 rfl rfl)
theorem dX1_bestFor_278 : decode cX1_bestFor 278 = .ok (.areturn, 1) := dk_176 (dk_at dksX1_bestFor_11 23 rfl rfl)
abbrev cX1_exchange : ByteArray := prog_1_method_56_code
def yX1_exchange : MethodName := ⟨RX1, "exchange", "(LGridMarket$Offer;LGridMarket$Offer;)I"⟩
def dkwX1_exchange_2 : List UInt8 := [180, 0, 149, 4, 100, 181, 0, 149, 132, 3, 1, 167, 255, 203, 167, 0, 7, 58, 4, 29, 172, 29, 172]
abbrev dktX1_exchange_2 : List UInt8 := dkwX1_exchange_2 ++ []
def dkwX1_exchange_1 : List UInt8 := [180, 1, 111, 44, 180, 1, 111, 182, 1, 112, 43, 89, 180, 0, 149, 4, 100, 181, 0, 149, 44, 89]
abbrev dktX1_exchange_1 : List UInt8 := dkwX1_exchange_1 ++ dktX1_exchange_2
def dkwX1_exchange_0 : List UInt8 := [3, 62, 43, 180, 0, 149, 158, 0, 52, 44, 180, 0, 149, 158, 0, 45, 42, 43, 180, 1, 102, 43]
abbrev dktX1_exchange_0 : List UInt8 := dkwX1_exchange_0 ++ dktX1_exchange_1
theorem dksX1_exchange_0 : cX1_exchange.data.toList.drop 0 = dktX1_exchange_0 := by decide +kernel
theorem dksX1_exchange_1 : cX1_exchange.data.toList.drop 22 = dktX1_exchange_1 := dk_seg dksX1_exchange_0 22 rfl rfl
theorem dksX1_exchange_2 : cX1_exchange.data.toList.drop 44 = dktX1_exchange_2 := dk_seg dksX1_exchange_1 22 rfl rfl
theorem dX1_exchange_0 : decode cX1_exchange 0 = .ok (.iconst 0, 1) := dk_3 (dk_at dksX1_exchange_0 0 rfl rfl)
theorem dX1_exchange_1 : decode cX1_exchange 1 = .ok (.istore_n 3, 1) := dk_62 (dk_at dksX1_exchange_0 1 rfl rfl)
theorem dX1_exchange_2 : decode cX1_exchange 2 = .ok (.aload_n 1, 1) := dk_43 (dk_at dksX1_exchange_0 2 rfl rfl)
theorem dX1_exchange_3 : decode cX1_exchange 3 = .ok (.getfield 149, 3) := dk_180 0 149 (dk_at dksX1_exchange_0 3 rfl rfl)
theorem dX1_exchange_6 : decode cX1_exchange 6 = .ok (.ifCond .le 52, 3) := dk_158 0 52 (dk_at dksX1_exchange_0 6 rfl rfl)
theorem dX1_exchange_9 : decode cX1_exchange 9 = .ok (.aload_n 2, 1) := dk_44 (dk_at dksX1_exchange_0 9 rfl rfl)
theorem dX1_exchange_10 : decode cX1_exchange 10 = .ok (.getfield 149, 3) := dk_180 0 149 (dk_at dksX1_exchange_0 10 rfl rfl)
theorem dX1_exchange_13 : decode cX1_exchange 13 = .ok (.ifCond .le 45, 3) := dk_158 0 45 (dk_at dksX1_exchange_0 13 rfl rfl)
theorem dX1_exchange_16 : decode cX1_exchange 16 = .ok (.aload_n 0, 1) := dk_42 (dk_at dksX1_exchange_0 16 rfl rfl)
theorem dX1_exchange_17 : decode cX1_exchange 17 = .ok (.aload_n 1, 1) := dk_43 (dk_at dksX1_exchange_0 17 rfl rfl)
theorem dX1_exchange_18 : decode cX1_exchange 18 = .ok (.getfield 358, 3) := dk_180 1 102 (dk_at dksX1_exchange_0 18 rfl rfl)
theorem dX1_exchange_21 : decode cX1_exchange 21 = .ok (.aload_n 1, 1) := dk_43 (dk_at dksX1_exchange_0 21 rfl rfl)
theorem dX1_exchange_22 : decode cX1_exchange 22 = .ok (.getfield 367, 3) := dk_180 1 111 (dk_at dksX1_exchange_1 0 rfl rfl)
theorem dX1_exchange_25 : decode cX1_exchange 25 = .ok (.aload_n 2, 1) := dk_44 (dk_at dksX1_exchange_1 3 rfl rfl)
theorem dX1_exchange_26 : decode cX1_exchange 26 = .ok (.getfield 367, 3) := dk_180 1 111 (dk_at dksX1_exchange_1 4 rfl rfl)
theorem dX1_exchange_29 : decode cX1_exchange 29 = .ok (.invokevirtual 368, 3) := dk_182 1 112 (dk_at dksX1_exchange_1 7 rfl rfl)
theorem dX1_exchange_32 : decode cX1_exchange 32 = .ok (.aload_n 1, 1) := dk_43 (dk_at dksX1_exchange_1 10 rfl rfl)
theorem dX1_exchange_33 : decode cX1_exchange 33 = .ok (.dup, 1) := dk_89 (dk_at dksX1_exchange_1 11 rfl rfl)
theorem dX1_exchange_34 : decode cX1_exchange 34 = .ok (.getfield 149, 3) := dk_180 0 149 (dk_at dksX1_exchange_1 12 rfl rfl)
theorem dX1_exchange_37 : decode cX1_exchange 37 = .ok (.iconst 1, 1) := dk_4 (dk_at dksX1_exchange_1 15 rfl rfl)
theorem dX1_exchange_38 : decode cX1_exchange 38 = .ok (.isub, 1) := dk_100 (dk_at dksX1_exchange_1 16 rfl rfl)
theorem dX1_exchange_39 : decode cX1_exchange 39 = .ok (.putfield 149, 3) := dk_181 0 149 (dk_at dksX1_exchange_1 17 rfl rfl)
theorem dX1_exchange_42 : decode cX1_exchange 42 = .ok (.aload_n 2, 1) := dk_44 (dk_at dksX1_exchange_1 20 rfl rfl)
theorem dX1_exchange_43 : decode cX1_exchange 43 = .ok (.dup, 1) := dk_89 (dk_at dksX1_exchange_1 21 rfl rfl)
theorem dX1_exchange_44 : decode cX1_exchange 44 = .ok (.getfield 149, 3) := dk_180 0 149 (dk_at dksX1_exchange_2 0 rfl rfl)
theorem dX1_exchange_47 : decode cX1_exchange 47 = .ok (.iconst 1, 1) := dk_4 (dk_at dksX1_exchange_2 3 rfl rfl)
theorem dX1_exchange_48 : decode cX1_exchange 48 = .ok (.isub, 1) := dk_100 (dk_at dksX1_exchange_2 4 rfl rfl)
theorem dX1_exchange_49 : decode cX1_exchange 49 = .ok (.putfield 149, 3) := dk_181 0 149 (dk_at dksX1_exchange_2 5 rfl rfl)
theorem dX1_exchange_52 : decode cX1_exchange 52 = .ok (.iinc 3 1, 3) := dk_132 3 1 (dk_at dksX1_exchange_2 8 rfl rfl)
theorem dX1_exchange_55 : decode cX1_exchange 55 = .ok (.goto (-53), 3) := dk_167 255 203 (dk_at dksX1_exchange_2 11 rfl rfl)
theorem dX1_exchange_58 : decode cX1_exchange 58 = .ok (.goto 7, 3) := dk_167 0 7 (dk_at dksX1_exchange_2 14 rfl rfl)
theorem dX1_exchange_61 : decode cX1_exchange 61 = .ok (.astore 4, 2) := dk_58 4 (dk_at dksX1_exchange_2 17 rfl rfl)
theorem dX1_exchange_63 : decode cX1_exchange 63 = .ok (.iload_n 3, 1) := dk_29 (dk_at dksX1_exchange_2 19 rfl rfl)
theorem dX1_exchange_64 : decode cX1_exchange 64 = .ok (.ireturn, 1) := dk_172 (dk_at dksX1_exchange_2 20 rfl rfl)
theorem dX1_exchange_65 : decode cX1_exchange 65 = .ok (.iload_n 3, 1) := dk_29 (dk_at dksX1_exchange_2 21 rfl rfl)
theorem dX1_exchange_66 : decode cX1_exchange 66 = .ok (.ireturn, 1) := dk_172 (dk_at dksX1_exchange_2 22 rfl rfl)
abbrev cX1_move : ByteArray := prog_1_method_55_code
def yX1_move : MethodName := ⟨RX1, "move", "(III)V"⟩
def dkwX1_move_2 : List UInt8 := [25, 4, 29, 92, 46, 4, 96, 79, 187, 1, 108, 89, 183, 1, 110, 191, 177]
abbrev dktX1_move_2 : List UInt8 := dkwX1_move_2 ++ []
def dkwX1_move_1 : List UInt8 := [29, 92, 46, 4, 100, 79, 42, 25, 4, 182, 1, 17, 154, 0, 27, 25, 4, 28, 92, 46, 4, 100, 79]
abbrev dktX1_move_1 : List UInt8 := dkwX1_move_1 ++ dktX1_move_2
def dkwX1_move_0 : List UInt8 := [42, 180, 0, 19, 180, 0, 57, 180, 0, 200, 27, 50, 58, 4, 25, 4, 28, 92, 46, 4, 96, 79, 25, 4]
abbrev dktX1_move_0 : List UInt8 := dkwX1_move_0 ++ dktX1_move_1
theorem dksX1_move_0 : cX1_move.data.toList.drop 0 = dktX1_move_0 := by decide +kernel
theorem dksX1_move_1 : cX1_move.data.toList.drop 24 = dktX1_move_1 := dk_seg dksX1_move_0 24 rfl rfl
theorem dksX1_move_2 : cX1_move.data.toList.drop 47 = dktX1_move_2 := dk_seg dksX1_move_1 23 rfl rfl
theorem dX1_move_0 : decode cX1_move 0 = .ok (.aload_n 0, 1) := dk_42 (dk_at dksX1_move_0 0 rfl rfl)
theorem dX1_move_1 : decode cX1_move 1 = .ok (.getfield 19, 3) := dk_180 0 19 (dk_at dksX1_move_0 1 rfl rfl)
theorem dX1_move_4 : decode cX1_move 4 = .ok (.getfield 57, 3) := dk_180 0 57 (dk_at dksX1_move_0 4 rfl rfl)
theorem dX1_move_7 : decode cX1_move 7 = .ok (.getfield 200, 3) := dk_180 0 200 (dk_at dksX1_move_0 7 rfl rfl)
theorem dX1_move_10 : decode cX1_move 10 = .ok (.iload_n 1, 1) := dk_27 (dk_at dksX1_move_0 10 rfl rfl)
theorem dX1_move_11 : decode cX1_move 11 = .ok (.aaload, 1) := dk_50 (dk_at dksX1_move_0 11 rfl rfl)
theorem dX1_move_12 : decode cX1_move 12 = .ok (.astore 4, 2) := dk_58 4 (dk_at dksX1_move_0 12 rfl rfl)
theorem dX1_move_14 : decode cX1_move 14 = .ok (.aload 4, 2) := dk_25 4 (dk_at dksX1_move_0 14 rfl rfl)
theorem dX1_move_16 : decode cX1_move 16 = .ok (.iload_n 2, 1) := dk_28 (dk_at dksX1_move_0 16 rfl rfl)
theorem dX1_move_17 : decode cX1_move 17 = .ok (.dup2, 1) := dk_92 (dk_at dksX1_move_0 17 rfl rfl)
theorem dX1_move_18 : decode cX1_move 18 = .ok (.iaload, 1) := dk_46 (dk_at dksX1_move_0 18 rfl rfl)
theorem dX1_move_19 : decode cX1_move 19 = .ok (.iconst 1, 1) := dk_4 (dk_at dksX1_move_0 19 rfl rfl)
theorem dX1_move_20 : decode cX1_move 20 = .ok (.iadd, 1) := dk_96 (dk_at dksX1_move_0 20 rfl rfl)
theorem dX1_move_21 : decode cX1_move 21 = .ok (.iastore, 1) := dk_79 (dk_at dksX1_move_0 21 rfl rfl)
theorem dX1_move_22 : decode cX1_move 22 = .ok (.aload 4, 2) := dk_25 4 (dk_at dksX1_move_0 22 rfl rfl)
theorem dX1_move_24 : decode cX1_move 24 = .ok (.iload_n 3, 1) := dk_29 (dk_at dksX1_move_1 0 rfl rfl)
theorem dX1_move_25 : decode cX1_move 25 = .ok (.dup2, 1) := dk_92 (dk_at dksX1_move_1 1 rfl rfl)
theorem dX1_move_26 : decode cX1_move 26 = .ok (.iaload, 1) := dk_46 (dk_at dksX1_move_1 2 rfl rfl)
theorem dX1_move_27 : decode cX1_move 27 = .ok (.iconst 1, 1) := dk_4 (dk_at dksX1_move_1 3 rfl rfl)
theorem dX1_move_28 : decode cX1_move 28 = .ok (.isub, 1) := dk_100 (dk_at dksX1_move_1 4 rfl rfl)
theorem dX1_move_29 : decode cX1_move 29 = .ok (.iastore, 1) := dk_79 (dk_at dksX1_move_1 5 rfl rfl)
theorem dX1_move_30 : decode cX1_move 30 = .ok (.aload_n 0, 1) := dk_42 (dk_at dksX1_move_1 6 rfl rfl)
theorem dX1_move_31 : decode cX1_move 31 = .ok (.aload 4, 2) := dk_25 4 (dk_at dksX1_move_1 7 rfl rfl)
theorem dX1_move_33 : decode cX1_move 33 = .ok (.invokevirtual 273, 3) := dk_182 1 17 (dk_at dksX1_move_1 9 rfl rfl)
theorem dX1_move_36 : decode cX1_move 36 = .ok (.ifCond .ne 27, 3) := dk_154 0 27 (dk_at dksX1_move_1 12 rfl rfl)
theorem dX1_move_39 : decode cX1_move 39 = .ok (.aload 4, 2) := dk_25 4 (dk_at dksX1_move_1 15 rfl rfl)
theorem dX1_move_41 : decode cX1_move 41 = .ok (.iload_n 2, 1) := dk_28 (dk_at dksX1_move_1 17 rfl rfl)
theorem dX1_move_42 : decode cX1_move 42 = .ok (.dup2, 1) := dk_92 (dk_at dksX1_move_1 18 rfl rfl)
theorem dX1_move_43 : decode cX1_move 43 = .ok (.iaload, 1) := dk_46 (dk_at dksX1_move_1 19 rfl rfl)
theorem dX1_move_44 : decode cX1_move 44 = .ok (.iconst 1, 1) := dk_4 (dk_at dksX1_move_1 20 rfl rfl)
theorem dX1_move_45 : decode cX1_move 45 = .ok (.isub, 1) := dk_100 (dk_at dksX1_move_1 21 rfl rfl)
theorem dX1_move_46 : decode cX1_move 46 = .ok (.iastore, 1) := dk_79 (dk_at dksX1_move_1 22 rfl rfl)
theorem dX1_move_47 : decode cX1_move 47 = .ok (.aload 4, 2) := dk_25 4 (dk_at dksX1_move_2 0 rfl rfl)
theorem dX1_move_49 : decode cX1_move 49 = .ok (.iload_n 3, 1) := dk_29 (dk_at dksX1_move_2 2 rfl rfl)
theorem dX1_move_50 : decode cX1_move 50 = .ok (.dup2, 1) := dk_92 (dk_at dksX1_move_2 3 rfl rfl)
theorem dX1_move_51 : decode cX1_move 51 = .ok (.iaload, 1) := dk_46 (dk_at dksX1_move_2 4 rfl rfl)
theorem dX1_move_52 : decode cX1_move 52 = .ok (.iconst 1, 1) := dk_4 (dk_at dksX1_move_2 5 rfl rfl)
theorem dX1_move_53 : decode cX1_move 53 = .ok (.iadd, 1) := dk_96 (dk_at dksX1_move_2 6 rfl rfl)
theorem dX1_move_54 : decode cX1_move 54 = .ok (.iastore, 1) := dk_79 (dk_at dksX1_move_2 7 rfl rfl)
theorem dX1_move_55 : decode cX1_move 55 = .ok (.new 364, 3) := dk_187 1 108 (dk_at dksX1_move_2 8 rfl rfl)
theorem dX1_move_58 : decode cX1_move 58 = .ok (.dup, 1) := dk_89 (dk_at dksX1_move_2 11 rfl rfl)
theorem dX1_move_59 : decode cX1_move 59 = .ok (.invokespecial 366, 3) := dk_183 1 110 (dk_at dksX1_move_2 12 rfl rfl)
theorem dX1_move_62 : decode cX1_move 62 = .ok (.athrow, 1) := dk_191 (dk_at dksX1_move_2 15 rfl rfl)
theorem dX1_move_63 : decode cX1_move 63 = .ok (.return_, 1) := dk_177 (dk_at dksX1_move_2 16 rfl rfl)
abbrev cX1_takeBack : ByteArray := prog_1_method_10_code
def yX1_takeBack : MethodName := ⟨RX1, "takeBack", "(I)I"⟩
def dkwX1_takeBack_2 : List UInt8 := [167, 0, 4, 3, 184, 0, 54, 44, 180, 0, 149, 62, 44, 3, 181, 0, 149, 29, 172]
abbrev dktX1_takeBack_2 : List UInt8 := dkwX1_takeBack_2 ++ []
def dkwX1_takeBack_1 : List UInt8 := [180, 0, 19, 180, 0, 139, 27, 185, 0, 91, 2, 0, 192, 0, 142, 77, 44, 180, 0, 149, 158, 0, 7, 4]
abbrev dktX1_takeBack_1 : List UInt8 := dkwX1_takeBack_1 ++ dktX1_takeBack_2
def dkwX1_takeBack_0 : List UInt8 := [27, 3, 42, 180, 0, 19, 180, 0, 139, 185, 0, 70, 1, 0, 4, 100, 184, 0, 46, 184, 0, 41, 42]
abbrev dktX1_takeBack_0 : List UInt8 := dkwX1_takeBack_0 ++ dktX1_takeBack_1
theorem dksX1_takeBack_0 : cX1_takeBack.data.toList.drop 0 = dktX1_takeBack_0 := by decide +kernel
theorem dksX1_takeBack_1 : cX1_takeBack.data.toList.drop 23 = dktX1_takeBack_1 := dk_seg dksX1_takeBack_0 23 rfl rfl
theorem dksX1_takeBack_2 : cX1_takeBack.data.toList.drop 47 = dktX1_takeBack_2 := dk_seg dksX1_takeBack_1 24 rfl rfl
theorem dX1_takeBack_0 : decode cX1_takeBack 0 = .ok (.iload_n 1, 1) := dk_27 (dk_at dksX1_takeBack_0 0 rfl rfl)
theorem dX1_takeBack_1 : decode cX1_takeBack 1 = .ok (.iconst 0, 1) := dk_3 (dk_at dksX1_takeBack_0 1 rfl rfl)
theorem dX1_takeBack_2 : decode cX1_takeBack 2 = .ok (.aload_n 0, 1) := dk_42 (dk_at dksX1_takeBack_0 2 rfl rfl)
theorem dX1_takeBack_3 : decode cX1_takeBack 3 = .ok (.getfield 19, 3) := dk_180 0 19 (dk_at dksX1_takeBack_0 3 rfl rfl)
theorem dX1_takeBack_6 : decode cX1_takeBack 6 = .ok (.getfield 139, 3) := dk_180 0 139 (dk_at dksX1_takeBack_0 6 rfl rfl)
theorem dX1_takeBack_9 : decode cX1_takeBack 9 = .ok (.invokeinterface 70 1, 5) := by decide +kernel
theorem dX1_takeBack_14 : decode cX1_takeBack 14 = .ok (.iconst 1, 1) := dk_4 (dk_at dksX1_takeBack_0 14 rfl rfl)
theorem dX1_takeBack_15 : decode cX1_takeBack 15 = .ok (.isub, 1) := dk_100 (dk_at dksX1_takeBack_0 15 rfl rfl)
theorem dX1_takeBack_16 : decode cX1_takeBack 16 = .ok (.invokestatic 46, 3) := dk_184 0 46 (dk_at dksX1_takeBack_0 16 rfl rfl)
theorem dX1_takeBack_19 : decode cX1_takeBack 19 = .ok (.invokestatic 41, 3) := dk_184 0 41 (dk_at dksX1_takeBack_0 19 rfl rfl)
theorem dX1_takeBack_22 : decode cX1_takeBack 22 = .ok (.aload_n 0, 1) := dk_42 (dk_at dksX1_takeBack_0 22 rfl rfl)
theorem dX1_takeBack_23 : decode cX1_takeBack 23 = .ok (.getfield 19, 3) := dk_180 0 19 (dk_at dksX1_takeBack_1 0 rfl rfl)
theorem dX1_takeBack_26 : decode cX1_takeBack 26 = .ok (.getfield 139, 3) := dk_180 0 139 (dk_at dksX1_takeBack_1 3 rfl rfl)
theorem dX1_takeBack_29 : decode cX1_takeBack 29 = .ok (.iload_n 1, 1) := dk_27 (dk_at dksX1_takeBack_1 6 rfl rfl)
theorem dX1_takeBack_30 : decode cX1_takeBack 30 = .ok (.invokeinterface 91 2, 5) := by decide +kernel
theorem dX1_takeBack_35 : decode cX1_takeBack 35 = .ok (.checkcast 142, 3) := dk_192 0 142 (dk_at dksX1_takeBack_1 12 rfl rfl)
theorem dX1_takeBack_38 : decode cX1_takeBack 38 = .ok (.astore_n 2, 1) := dk_77 (dk_at dksX1_takeBack_1 15 rfl rfl)
theorem dX1_takeBack_39 : decode cX1_takeBack 39 = .ok (.aload_n 2, 1) := dk_44 (dk_at dksX1_takeBack_1 16 rfl rfl)
theorem dX1_takeBack_40 : decode cX1_takeBack 40 = .ok (.getfield 149, 3) := dk_180 0 149 (dk_at dksX1_takeBack_1 17 rfl rfl)
theorem dX1_takeBack_43 : decode cX1_takeBack 43 = .ok (.ifCond .le 7, 3) := dk_158 0 7 (dk_at dksX1_takeBack_1 20 rfl rfl)
theorem dX1_takeBack_46 : decode cX1_takeBack 46 = .ok (.iconst 1, 1) := dk_4 (dk_at dksX1_takeBack_1 23 rfl rfl)
theorem dX1_takeBack_47 : decode cX1_takeBack 47 = .ok (.goto 4, 3) := dk_167 0 4 (dk_at dksX1_takeBack_2 0 rfl rfl)
theorem dX1_takeBack_50 : decode cX1_takeBack 50 = .ok (.iconst 0, 1) := dk_3 (dk_at dksX1_takeBack_2 3 rfl rfl)
theorem dX1_takeBack_51 : decode cX1_takeBack 51 = .ok (.invokestatic 54, 3) := dk_184 0 54 (dk_at dksX1_takeBack_2 4 rfl rfl)
theorem dX1_takeBack_54 : decode cX1_takeBack 54 = .ok (.aload_n 2, 1) := dk_44 (dk_at dksX1_takeBack_2 7 rfl rfl)
theorem dX1_takeBack_55 : decode cX1_takeBack 55 = .ok (.getfield 149, 3) := dk_180 0 149 (dk_at dksX1_takeBack_2 8 rfl rfl)
theorem dX1_takeBack_58 : decode cX1_takeBack 58 = .ok (.istore_n 3, 1) := dk_62 (dk_at dksX1_takeBack_2 11 rfl rfl)
theorem dX1_takeBack_59 : decode cX1_takeBack 59 = .ok (.aload_n 2, 1) := dk_44 (dk_at dksX1_takeBack_2 12 rfl rfl)
theorem dX1_takeBack_60 : decode cX1_takeBack 60 = .ok (.iconst 0, 1) := dk_3 (dk_at dksX1_takeBack_2 13 rfl rfl)
theorem dX1_takeBack_61 : decode cX1_takeBack 61 = .ok (.putfield 149, 3) := dk_181 0 149 (dk_at dksX1_takeBack_2 14 rfl rfl)
theorem dX1_takeBack_64 : decode cX1_takeBack 64 = .ok (.iload_n 3, 1) := dk_29 (dk_at dksX1_takeBack_2 17 rfl rfl)
theorem dX1_takeBack_65 : decode cX1_takeBack 65 = .ok (.ireturn, 1) := dk_172 (dk_at dksX1_takeBack_2 18 rfl rfl)
abbrev cX1_aid : ByteArray := prog_1_method_11_code
def yX1_aid : MethodName := ⟨RX1, "aid", "(IIZII)I"⟩
def dkwX1_aid_5 : List UInt8 := [180, 0, 19, 180, 0, 152, 185, 0, 70, 1, 0, 4, 100, 172]
abbrev dktX1_aid_5 : List UInt8 := dkwX1_aid_5 ++ []
def dkwX1_aid_4 : List UInt8 := [180, 0, 152, 187, 0, 155, 89, 27, 28, 29, 21, 4, 21, 5, 183, 0, 157, 185, 0, 81, 2, 0, 87, 42]
abbrev dktX1_aid_4 : List UInt8 := dkwX1_aid_4 ++ dktX1_aid_5
def dkwX1_aid_3 : List UInt8 := [185, 0, 70, 1, 0, 16, 30, 162, 0, 7, 4, 167, 0, 4, 3, 184, 0, 54, 42, 180, 0, 19]
abbrev dktX1_aid_3 : List UInt8 := dkwX1_aid_3 ++ dktX1_aid_4
def dkwX1_aid_2 : List UInt8 := [167, 0, 4, 3, 184, 0, 50, 42, 180, 0, 33, 27, 51, 154, 0, 24, 42, 180, 0, 19, 180, 0, 152]
abbrev dktX1_aid_2 : List UInt8 := dkwX1_aid_2 ++ dktX1_aid_3
def dkwX1_aid_1 : List UInt8 := [3, 17, 1, 44, 184, 0, 46, 153, 0, 18, 21, 5, 4, 16, 10, 184, 0, 46, 153, 0, 7, 4]
abbrev dktX1_aid_1 : List UInt8 := dkwX1_aid_1 ++ dktX1_aid_2
def dkwX1_aid_0 : List UInt8 := [27, 184, 0, 37, 153, 0, 14, 28, 184, 0, 64, 153, 0, 7, 4, 167, 0, 4, 3, 184, 0, 41, 21, 4]
abbrev dktX1_aid_0 : List UInt8 := dkwX1_aid_0 ++ dktX1_aid_1
theorem dksX1_aid_0 : cX1_aid.data.toList.drop 0 = dktX1_aid_0 := by decide +kernel
theorem dksX1_aid_1 : cX1_aid.data.toList.drop 24 = dktX1_aid_1 := dk_seg dksX1_aid_0 24 rfl rfl
theorem dksX1_aid_2 : cX1_aid.data.toList.drop 46 = dktX1_aid_2 := dk_seg dksX1_aid_1 22 rfl rfl
theorem dksX1_aid_3 : cX1_aid.data.toList.drop 69 = dktX1_aid_3 := dk_seg dksX1_aid_2 23 rfl rfl
theorem dksX1_aid_4 : cX1_aid.data.toList.drop 91 = dktX1_aid_4 := dk_seg dksX1_aid_3 22 rfl rfl
theorem dksX1_aid_5 : cX1_aid.data.toList.drop 115 = dktX1_aid_5 := dk_seg dksX1_aid_4 24 rfl rfl
theorem dX1_aid_0 : decode cX1_aid 0 = .ok (.iload_n 1, 1) := dk_27 (dk_at dksX1_aid_0 0 rfl rfl)
theorem dX1_aid_1 : decode cX1_aid 1 = .ok (.invokestatic 37, 3) := dk_184 0 37 (dk_at dksX1_aid_0 1 rfl rfl)
theorem dX1_aid_4 : decode cX1_aid 4 = .ok (.ifCond .eq 14, 3) := dk_153 0 14 (dk_at dksX1_aid_0 4 rfl rfl)
theorem dX1_aid_7 : decode cX1_aid 7 = .ok (.iload_n 2, 1) := dk_28 (dk_at dksX1_aid_0 7 rfl rfl)
theorem dX1_aid_8 : decode cX1_aid 8 = .ok (.invokestatic 64, 3) := dk_184 0 64 (dk_at dksX1_aid_0 8 rfl rfl)
theorem dX1_aid_11 : decode cX1_aid 11 = .ok (.ifCond .eq 7, 3) := dk_153 0 7 (dk_at dksX1_aid_0 11 rfl rfl)
theorem dX1_aid_14 : decode cX1_aid 14 = .ok (.iconst 1, 1) := dk_4 (dk_at dksX1_aid_0 14 rfl rfl)
theorem dX1_aid_15 : decode cX1_aid 15 = .ok (.goto 4, 3) := dk_167 0 4 (dk_at dksX1_aid_0 15 rfl rfl)
theorem dX1_aid_18 : decode cX1_aid 18 = .ok (.iconst 0, 1) := dk_3 (dk_at dksX1_aid_0 18 rfl rfl)
theorem dX1_aid_19 : decode cX1_aid 19 = .ok (.invokestatic 41, 3) := dk_184 0 41 (dk_at dksX1_aid_0 19 rfl rfl)
theorem dX1_aid_22 : decode cX1_aid 22 = .ok (.iload 4, 2) := dk_21 4 (dk_at dksX1_aid_0 22 rfl rfl)
theorem dX1_aid_24 : decode cX1_aid 24 = .ok (.iconst 0, 1) := dk_3 (dk_at dksX1_aid_1 0 rfl rfl)
theorem dX1_aid_25 : decode cX1_aid 25 = .ok (.sipush 300, 3) := dk_17 1 44 (dk_at dksX1_aid_1 1 rfl rfl)
theorem dX1_aid_28 : decode cX1_aid 28 = .ok (.invokestatic 46, 3) := dk_184 0 46 (dk_at dksX1_aid_1 4 rfl rfl)
theorem dX1_aid_31 : decode cX1_aid 31 = .ok (.ifCond .eq 18, 3) := dk_153 0 18 (dk_at dksX1_aid_1 7 rfl rfl)
theorem dX1_aid_34 : decode cX1_aid 34 = .ok (.iload 5, 2) := dk_21 5 (dk_at dksX1_aid_1 10 rfl rfl)
theorem dX1_aid_36 : decode cX1_aid 36 = .ok (.iconst 1, 1) := dk_4 (dk_at dksX1_aid_1 12 rfl rfl)
theorem dX1_aid_37 : decode cX1_aid 37 = .ok (.bipush 10, 2) := dk_16 10 (dk_at dksX1_aid_1 13 rfl rfl)
theorem dX1_aid_39 : decode cX1_aid 39 = .ok (.invokestatic 46, 3) := dk_184 0 46 (dk_at dksX1_aid_1 15 rfl rfl)
theorem dX1_aid_42 : decode cX1_aid 42 = .ok (.ifCond .eq 7, 3) := dk_153 0 7 (dk_at dksX1_aid_1 18 rfl rfl)
theorem dX1_aid_45 : decode cX1_aid 45 = .ok (.iconst 1, 1) := dk_4 (dk_at dksX1_aid_1 21 rfl rfl)
theorem dX1_aid_46 : decode cX1_aid 46 = .ok (.goto 4, 3) := dk_167 0 4 (dk_at dksX1_aid_2 0 rfl rfl)
theorem dX1_aid_49 : decode cX1_aid 49 = .ok (.iconst 0, 1) := dk_3 (dk_at dksX1_aid_2 3 rfl rfl)
theorem dX1_aid_50 : decode cX1_aid 50 = .ok (.invokestatic 50, 3) := dk_184 0 50 (dk_at dksX1_aid_2 4 rfl rfl)
theorem dX1_aid_53 : decode cX1_aid 53 = .ok (.aload_n 0, 1) := dk_42 (dk_at dksX1_aid_2 7 rfl rfl)
theorem dX1_aid_54 : decode cX1_aid 54 = .ok (.getfield 33, 3) := dk_180 0 33 (dk_at dksX1_aid_2 8 rfl rfl)
theorem dX1_aid_57 : decode cX1_aid 57 = .ok (.iload_n 1, 1) := dk_27 (dk_at dksX1_aid_2 11 rfl rfl)
theorem dX1_aid_58 : decode cX1_aid 58 = .ok (.baload, 1) := dk_51 (dk_at dksX1_aid_2 12 rfl rfl)
theorem dX1_aid_59 : decode cX1_aid 59 = .ok (.ifCond .ne 24, 3) := dk_154 0 24 (dk_at dksX1_aid_2 13 rfl rfl)
theorem dX1_aid_62 : decode cX1_aid 62 = .ok (.aload_n 0, 1) := dk_42 (dk_at dksX1_aid_2 16 rfl rfl)
theorem dX1_aid_63 : decode cX1_aid 63 = .ok (.getfield 19, 3) := dk_180 0 19 (dk_at dksX1_aid_2 17 rfl rfl)
theorem dX1_aid_66 : decode cX1_aid 66 = .ok (.getfield 152, 3) := dk_180 0 152 (dk_at dksX1_aid_2 20 rfl rfl)
theorem dX1_aid_69 : decode cX1_aid 69 = .ok (.invokeinterface 70 1, 5) := by decide +kernel
theorem dX1_aid_74 : decode cX1_aid 74 = .ok (.bipush 30, 2) := dk_16 30 (dk_at dksX1_aid_3 5 rfl rfl)
theorem dX1_aid_76 : decode cX1_aid 76 = .ok (.if_icmp .ge 7, 3) := dk_162 0 7 (dk_at dksX1_aid_3 7 rfl rfl)
theorem dX1_aid_79 : decode cX1_aid 79 = .ok (.iconst 1, 1) := dk_4 (dk_at dksX1_aid_3 10 rfl rfl)
theorem dX1_aid_80 : decode cX1_aid 80 = .ok (.goto 4, 3) := dk_167 0 4 (dk_at dksX1_aid_3 11 rfl rfl)
theorem dX1_aid_83 : decode cX1_aid 83 = .ok (.iconst 0, 1) := dk_3 (dk_at dksX1_aid_3 14 rfl rfl)
theorem dX1_aid_84 : decode cX1_aid 84 = .ok (.invokestatic 54, 3) := dk_184 0 54 (dk_at dksX1_aid_3 15 rfl rfl)
theorem dX1_aid_87 : decode cX1_aid 87 = .ok (.aload_n 0, 1) := dk_42 (dk_at dksX1_aid_3 18 rfl rfl)
theorem dX1_aid_88 : decode cX1_aid 88 = .ok (.getfield 19, 3) := dk_180 0 19 (dk_at dksX1_aid_3 19 rfl rfl)
theorem dX1_aid_91 : decode cX1_aid 91 = .ok (.getfield 152, 3) := dk_180 0 152 (dk_at dksX1_aid_4 0 rfl rfl)
theorem dX1_aid_94 : decode cX1_aid 94 = .ok (.new 155, 3) := dk_187 0 155 (dk_at dksX1_aid_4 3 rfl rfl)
theorem dX1_aid_97 : decode cX1_aid 97 = .ok (.dup, 1) := dk_89 (dk_at dksX1_aid_4 6 rfl rfl)
theorem dX1_aid_98 : decode cX1_aid 98 = .ok (.iload_n 1, 1) := dk_27 (dk_at dksX1_aid_4 7 rfl rfl)
theorem dX1_aid_99 : decode cX1_aid 99 = .ok (.iload_n 2, 1) := dk_28 (dk_at dksX1_aid_4 8 rfl rfl)
theorem dX1_aid_100 : decode cX1_aid 100 = .ok (.iload_n 3, 1) := dk_29 (dk_at dksX1_aid_4 9 rfl rfl)
theorem dX1_aid_101 : decode cX1_aid 101 = .ok (.iload 4, 2) := dk_21 4 (dk_at dksX1_aid_4 10 rfl rfl)
theorem dX1_aid_103 : decode cX1_aid 103 = .ok (.iload 5, 2) := dk_21 5 (dk_at dksX1_aid_4 12 rfl rfl)
theorem dX1_aid_105 : decode cX1_aid 105 = .ok (.invokespecial 157, 3) := dk_183 0 157 (dk_at dksX1_aid_4 14 rfl rfl)
theorem dX1_aid_108 : decode cX1_aid 108 = .ok (.invokeinterface 81 2, 5) := by decide +kernel
theorem dX1_aid_113 : decode cX1_aid 113 = .ok (.pop, 1) := dk_87 (dk_at dksX1_aid_4 22 rfl rfl)
theorem dX1_aid_114 : decode cX1_aid 114 = .ok (.aload_n 0, 1) := dk_42 (dk_at dksX1_aid_4 23 rfl rfl)
theorem dX1_aid_115 : decode cX1_aid 115 = .ok (.getfield 19, 3) := dk_180 0 19 (dk_at dksX1_aid_5 0 rfl rfl)
theorem dX1_aid_118 : decode cX1_aid 118 = .ok (.getfield 152, 3) := dk_180 0 152 (dk_at dksX1_aid_5 3 rfl rfl)
theorem dX1_aid_121 : decode cX1_aid 121 = .ok (.invokeinterface 70 1, 5) := by decide +kernel
theorem dX1_aid_126 : decode cX1_aid 126 = .ok (.iconst 1, 1) := dk_4 (dk_at dksX1_aid_5 11 rfl rfl)
theorem dX1_aid_127 : decode cX1_aid 127 = .ok (.isub, 1) := dk_100 (dk_at dksX1_aid_5 12 rfl rfl)
theorem dX1_aid_128 : decode cX1_aid 128 = .ok (.ireturn, 1) := dk_172 (dk_at dksX1_aid_5 13 rfl rfl)
abbrev cX1_close : ByteArray := prog_1_method_12_code
def yX1_close : MethodName := ⟨RX1, "close", "()I"⟩
def dkwX1_close_2 : List UInt8 := [187, 0, 16, 89, 183, 0, 18, 181, 0, 19, 42, 180, 0, 10, 185, 0, 70, 1, 0, 172]
abbrev dktX1_close_2 : List UInt8 := dkwX1_close_2 ++ []
def dkwX1_close_1 : List UInt8 := [4, 167, 0, 4, 3, 184, 0, 54, 42, 180, 0, 10, 42, 180, 0, 19, 185, 0, 81, 2, 0, 87, 42]
abbrev dktX1_close_1 : List UInt8 := dkwX1_close_1 ++ dktX1_close_2
def dkwX1_close_0 : List UInt8 := [42, 180, 0, 19, 180, 0, 57, 198, 0, 21, 42, 180, 0, 10, 185, 0, 70, 1, 0, 16, 9, 162, 0, 7]
abbrev dktX1_close_0 : List UInt8 := dkwX1_close_0 ++ dktX1_close_1
theorem dksX1_close_0 : cX1_close.data.toList.drop 0 = dktX1_close_0 := by decide +kernel
theorem dksX1_close_1 : cX1_close.data.toList.drop 24 = dktX1_close_1 := dk_seg dksX1_close_0 24 rfl rfl
theorem dksX1_close_2 : cX1_close.data.toList.drop 47 = dktX1_close_2 := dk_seg dksX1_close_1 23 rfl rfl
theorem dX1_close_0 : decode cX1_close 0 = .ok (.aload_n 0, 1) := dk_42 (dk_at dksX1_close_0 0 rfl rfl)
theorem dX1_close_1 : decode cX1_close 1 = .ok (.getfield 19, 3) := dk_180 0 19 (dk_at dksX1_close_0 1 rfl rfl)
theorem dX1_close_4 : decode cX1_close 4 = .ok (.getfield 57, 3) := dk_180 0 57 (dk_at dksX1_close_0 4 rfl rfl)
theorem dX1_close_7 : decode cX1_close 7 = .ok (.ifnull 21, 3) := dk_198 0 21 (dk_at dksX1_close_0 7 rfl rfl)
theorem dX1_close_10 : decode cX1_close 10 = .ok (.aload_n 0, 1) := dk_42 (dk_at dksX1_close_0 10 rfl rfl)
theorem dX1_close_11 : decode cX1_close 11 = .ok (.getfield 10, 3) := dk_180 0 10 (dk_at dksX1_close_0 11 rfl rfl)
theorem dX1_close_14 : decode cX1_close 14 = .ok (.invokeinterface 70 1, 5) := by decide +kernel
theorem dX1_close_19 : decode cX1_close 19 = .ok (.bipush 9, 2) := dk_16 9 (dk_at dksX1_close_0 19 rfl rfl)
theorem dX1_close_21 : decode cX1_close 21 = .ok (.if_icmp .ge 7, 3) := dk_162 0 7 (dk_at dksX1_close_0 21 rfl rfl)
theorem dX1_close_24 : decode cX1_close 24 = .ok (.iconst 1, 1) := dk_4 (dk_at dksX1_close_1 0 rfl rfl)
theorem dX1_close_25 : decode cX1_close 25 = .ok (.goto 4, 3) := dk_167 0 4 (dk_at dksX1_close_1 1 rfl rfl)
theorem dX1_close_28 : decode cX1_close 28 = .ok (.iconst 0, 1) := dk_3 (dk_at dksX1_close_1 4 rfl rfl)
theorem dX1_close_29 : decode cX1_close 29 = .ok (.invokestatic 54, 3) := dk_184 0 54 (dk_at dksX1_close_1 5 rfl rfl)
theorem dX1_close_32 : decode cX1_close 32 = .ok (.aload_n 0, 1) := dk_42 (dk_at dksX1_close_1 8 rfl rfl)
theorem dX1_close_33 : decode cX1_close 33 = .ok (.getfield 10, 3) := dk_180 0 10 (dk_at dksX1_close_1 9 rfl rfl)
theorem dX1_close_36 : decode cX1_close 36 = .ok (.aload_n 0, 1) := dk_42 (dk_at dksX1_close_1 12 rfl rfl)
theorem dX1_close_37 : decode cX1_close 37 = .ok (.getfield 19, 3) := dk_180 0 19 (dk_at dksX1_close_1 13 rfl rfl)
theorem dX1_close_40 : decode cX1_close 40 = .ok (.invokeinterface 81 2, 5) := by decide +kernel
theorem dX1_close_45 : decode cX1_close 45 = .ok (.pop, 1) := dk_87 (dk_at dksX1_close_1 21 rfl rfl)
theorem dX1_close_46 : decode cX1_close 46 = .ok (.aload_n 0, 1) := dk_42 (dk_at dksX1_close_1 22 rfl rfl)
theorem dX1_close_47 : decode cX1_close 47 = .ok (.new 16, 3) := dk_187 0 16 (dk_at dksX1_close_2 0 rfl rfl)
theorem dX1_close_50 : decode cX1_close 50 = .ok (.dup, 1) := dk_89 (dk_at dksX1_close_2 3 rfl rfl)
theorem dX1_close_51 : decode cX1_close 51 = .ok (.invokespecial 18, 3) := dk_183 0 18 (dk_at dksX1_close_2 4 rfl rfl)
theorem dX1_close_54 : decode cX1_close 54 = .ok (.putfield 19, 3) := dk_181 0 19 (dk_at dksX1_close_2 7 rfl rfl)
theorem dX1_close_57 : decode cX1_close 57 = .ok (.aload_n 0, 1) := dk_42 (dk_at dksX1_close_2 10 rfl rfl)
theorem dX1_close_58 : decode cX1_close 58 = .ok (.getfield 10, 3) := dk_180 0 10 (dk_at dksX1_close_2 11 rfl rfl)
theorem dX1_close_61 : decode cX1_close 61 = .ok (.invokeinterface 70 1, 5) := by decide +kernel
theorem dX1_close_66 : decode cX1_close 66 = .ok (.ireturn, 1) := dk_172 (dk_at dksX1_close_2 19 rfl rfl)
abbrev cX1_read : ByteArray := prog_1_method_13_code
def yX1_read : MethodName := ⟨RX1, "read", "(IIIII)I"⟩
def dkwX1_read_3 : List UInt8 := [180, 0, 168, 28, 50, 29, 50, 21, 4, 4, 84, 25, 6, 28, 29, 21, 4, 182, 0, 172, 172]
abbrev dktX1_read_3 : List UInt8 := dkwX1_read_3 ++ []
def dkwX1_read_2 : List UInt8 := [184, 0, 46, 184, 0, 50, 25, 6, 180, 0, 164, 28, 50, 29, 50, 21, 4, 21, 5, 79, 25, 6]
abbrev dktX1_read_2 : List UInt8 := dkwX1_read_2 ++ dktX1_read_3
def dkwX1_read_1 : List UInt8 := [184, 0, 64, 153, 0, 7, 4, 167, 0, 4, 3, 184, 0, 41, 21, 5, 17, 255, 56, 17, 0, 200]
abbrev dktX1_read_1 : List UInt8 := dkwX1_read_1 ++ dktX1_read_2
def dkwX1_read_0 : List UInt8 := [42, 27, 182, 0, 160, 58, 6, 28, 184, 0, 37, 153, 0, 22, 29, 184, 0, 61, 153, 0, 15, 21, 4]
abbrev dktX1_read_0 : List UInt8 := dkwX1_read_0 ++ dktX1_read_1
theorem dksX1_read_0 : cX1_read.data.toList.drop 0 = dktX1_read_0 := by decide +kernel
theorem dksX1_read_1 : cX1_read.data.toList.drop 23 = dktX1_read_1 := dk_seg dksX1_read_0 23 rfl rfl
theorem dksX1_read_2 : cX1_read.data.toList.drop 45 = dktX1_read_2 := dk_seg dksX1_read_1 22 rfl rfl
theorem dksX1_read_3 : cX1_read.data.toList.drop 67 = dktX1_read_3 := dk_seg dksX1_read_2 22 rfl rfl
theorem dX1_read_0 : decode cX1_read 0 = .ok (.aload_n 0, 1) := dk_42 (dk_at dksX1_read_0 0 rfl rfl)
theorem dX1_read_1 : decode cX1_read 1 = .ok (.iload_n 1, 1) := dk_27 (dk_at dksX1_read_0 1 rfl rfl)
theorem dX1_read_2 : decode cX1_read 2 = .ok (.invokevirtual 160, 3) := dk_182 0 160 (dk_at dksX1_read_0 2 rfl rfl)
theorem dX1_read_5 : decode cX1_read 5 = .ok (.astore 6, 2) := dk_58 6 (dk_at dksX1_read_0 5 rfl rfl)
theorem dX1_read_7 : decode cX1_read 7 = .ok (.iload_n 2, 1) := dk_28 (dk_at dksX1_read_0 7 rfl rfl)
theorem dX1_read_8 : decode cX1_read 8 = .ok (.invokestatic 37, 3) := dk_184 0 37 (dk_at dksX1_read_0 8 rfl rfl)
theorem dX1_read_11 : decode cX1_read 11 = .ok (.ifCond .eq 22, 3) := dk_153 0 22 (dk_at dksX1_read_0 11 rfl rfl)
theorem dX1_read_14 : decode cX1_read 14 = .ok (.iload_n 3, 1) := dk_29 (dk_at dksX1_read_0 14 rfl rfl)
theorem dX1_read_15 : decode cX1_read 15 = .ok (.invokestatic 61, 3) := dk_184 0 61 (dk_at dksX1_read_0 15 rfl rfl)
theorem dX1_read_18 : decode cX1_read 18 = .ok (.ifCond .eq 15, 3) := dk_153 0 15 (dk_at dksX1_read_0 18 rfl rfl)
theorem dX1_read_21 : decode cX1_read 21 = .ok (.iload 4, 2) := dk_21 4 (dk_at dksX1_read_0 21 rfl rfl)
theorem dX1_read_23 : decode cX1_read 23 = .ok (.invokestatic 64, 3) := dk_184 0 64 (dk_at dksX1_read_1 0 rfl rfl)
theorem dX1_read_26 : decode cX1_read 26 = .ok (.ifCond .eq 7, 3) := dk_153 0 7 (dk_at dksX1_read_1 3 rfl rfl)
theorem dX1_read_29 : decode cX1_read 29 = .ok (.iconst 1, 1) := dk_4 (dk_at dksX1_read_1 6 rfl rfl)
theorem dX1_read_30 : decode cX1_read 30 = .ok (.goto 4, 3) := dk_167 0 4 (dk_at dksX1_read_1 7 rfl rfl)
theorem dX1_read_33 : decode cX1_read 33 = .ok (.iconst 0, 1) := dk_3 (dk_at dksX1_read_1 10 rfl rfl)
theorem dX1_read_34 : decode cX1_read 34 = .ok (.invokestatic 41, 3) := dk_184 0 41 (dk_at dksX1_read_1 11 rfl rfl)
theorem dX1_read_37 : decode cX1_read 37 = .ok (.iload 5, 2) := dk_21 5 (dk_at dksX1_read_1 14 rfl rfl)
theorem dX1_read_39 : decode cX1_read 39 = .ok (.sipush (-200), 3) := dk_17 255 56 (dk_at dksX1_read_1 16 rfl rfl)
theorem dX1_read_42 : decode cX1_read 42 = .ok (.sipush 200, 3) := dk_17 0 200 (dk_at dksX1_read_1 19 rfl rfl)
theorem dX1_read_45 : decode cX1_read 45 = .ok (.invokestatic 46, 3) := dk_184 0 46 (dk_at dksX1_read_2 0 rfl rfl)
theorem dX1_read_48 : decode cX1_read 48 = .ok (.invokestatic 50, 3) := dk_184 0 50 (dk_at dksX1_read_2 3 rfl rfl)
theorem dX1_read_51 : decode cX1_read 51 = .ok (.aload 6, 2) := dk_25 6 (dk_at dksX1_read_2 6 rfl rfl)
theorem dX1_read_53 : decode cX1_read 53 = .ok (.getfield 164, 3) := dk_180 0 164 (dk_at dksX1_read_2 8 rfl rfl)
theorem dX1_read_56 : decode cX1_read 56 = .ok (.iload_n 2, 1) := dk_28 (dk_at dksX1_read_2 11 rfl rfl)
theorem dX1_read_57 : decode cX1_read 57 = .ok (.aaload, 1) := dk_50 (dk_at dksX1_read_2 12 rfl rfl)
theorem dX1_read_58 : decode cX1_read 58 = .ok (.iload_n 3, 1) := dk_29 (dk_at dksX1_read_2 13 rfl rfl)
theorem dX1_read_59 : decode cX1_read 59 = .ok (.aaload, 1) := dk_50 (dk_at dksX1_read_2 14 rfl rfl)
theorem dX1_read_60 : decode cX1_read 60 = .ok (.iload 4, 2) := dk_21 4 (dk_at dksX1_read_2 15 rfl rfl)
theorem dX1_read_62 : decode cX1_read 62 = .ok (.iload 5, 2) := dk_21 5 (dk_at dksX1_read_2 17 rfl rfl)
theorem dX1_read_64 : decode cX1_read 64 = .ok (.iastore, 1) := dk_79 (dk_at dksX1_read_2 19 rfl rfl)
theorem dX1_read_65 : decode cX1_read 65 = .ok (.aload 6, 2) := dk_25 6 (dk_at dksX1_read_2 20 rfl rfl)
theorem dX1_read_67 : decode cX1_read 67 = .ok (.getfield 168, 3) := dk_180 0 168 (dk_at dksX1_read_3 0 rfl rfl)
theorem dX1_read_70 : decode cX1_read 70 = .ok (.iload_n 2, 1) := dk_28 (dk_at dksX1_read_3 3 rfl rfl)
theorem dX1_read_71 : decode cX1_read 71 = .ok (.aaload, 1) := dk_50 (dk_at dksX1_read_3 4 rfl rfl)
theorem dX1_read_72 : decode cX1_read 72 = .ok (.iload_n 3, 1) := dk_29 (dk_at dksX1_read_3 5 rfl rfl)
theorem dX1_read_73 : decode cX1_read 73 = .ok (.aaload, 1) := dk_50 (dk_at dksX1_read_3 6 rfl rfl)
theorem dX1_read_74 : decode cX1_read 74 = .ok (.iload 4, 2) := dk_21 4 (dk_at dksX1_read_3 7 rfl rfl)
theorem dX1_read_76 : decode cX1_read 76 = .ok (.iconst 1, 1) := dk_4 (dk_at dksX1_read_3 9 rfl rfl)
theorem dX1_read_77 : decode cX1_read 77 = .ok (.bastore, 1) := dk_84 (dk_at dksX1_read_3 10 rfl rfl)
theorem dX1_read_78 : decode cX1_read 78 = .ok (.aload 6, 2) := dk_25 6 (dk_at dksX1_read_3 11 rfl rfl)
theorem dX1_read_80 : decode cX1_read 80 = .ok (.iload_n 2, 1) := dk_28 (dk_at dksX1_read_3 13 rfl rfl)
theorem dX1_read_81 : decode cX1_read 81 = .ok (.iload_n 3, 1) := dk_29 (dk_at dksX1_read_3 14 rfl rfl)
theorem dX1_read_82 : decode cX1_read 82 = .ok (.iload 4, 2) := dk_21 4 (dk_at dksX1_read_3 15 rfl rfl)
theorem dX1_read_84 : decode cX1_read 84 = .ok (.invokevirtual 172, 3) := dk_182 0 172 (dk_at dksX1_read_3 17 rfl rfl)
theorem dX1_read_87 : decode cX1_read 87 = .ok (.ireturn, 1) := dk_172 (dk_at dksX1_read_3 20 rfl rfl)
abbrev cX1_closed : ByteArray := prog_1_method_41_code
def yX1_closed : MethodName := ⟨RX1, "closed", "(I)LGridMarket$Day;"⟩
def dkwX1_closed_1 : List UInt8 := [185, 0, 91, 2, 0, 192, 0, 16, 176]
abbrev dktX1_closed_1 : List UInt8 := dkwX1_closed_1 ++ []
def dkwX1_closed_0 : List UInt8 := [27, 3, 42, 180, 0, 10, 185, 0, 70, 1, 0, 4, 100, 184, 0, 46, 184, 0, 41, 42, 180, 0, 10, 27]
abbrev dktX1_closed_0 : List UInt8 := dkwX1_closed_0 ++ dktX1_closed_1
theorem dksX1_closed_0 : cX1_closed.data.toList.drop 0 = dktX1_closed_0 := by decide +kernel
theorem dksX1_closed_1 : cX1_closed.data.toList.drop 24 = dktX1_closed_1 := dk_seg dksX1_closed_0 24 rfl rfl
theorem dX1_closed_0 : decode cX1_closed 0 = .ok (.iload_n 1, 1) := dk_27 (dk_at dksX1_closed_0 0 rfl rfl)
theorem dX1_closed_1 : decode cX1_closed 1 = .ok (.iconst 0, 1) := dk_3 (dk_at dksX1_closed_0 1 rfl rfl)
theorem dX1_closed_2 : decode cX1_closed 2 = .ok (.aload_n 0, 1) := dk_42 (dk_at dksX1_closed_0 2 rfl rfl)
theorem dX1_closed_3 : decode cX1_closed 3 = .ok (.getfield 10, 3) := dk_180 0 10 (dk_at dksX1_closed_0 3 rfl rfl)
theorem dX1_closed_6 : decode cX1_closed 6 = .ok (.invokeinterface 70 1, 5) := by decide +kernel
theorem dX1_closed_11 : decode cX1_closed 11 = .ok (.iconst 1, 1) := dk_4 (dk_at dksX1_closed_0 11 rfl rfl)
theorem dX1_closed_12 : decode cX1_closed 12 = .ok (.isub, 1) := dk_100 (dk_at dksX1_closed_0 12 rfl rfl)
theorem dX1_closed_13 : decode cX1_closed 13 = .ok (.invokestatic 46, 3) := dk_184 0 46 (dk_at dksX1_closed_0 13 rfl rfl)
theorem dX1_closed_16 : decode cX1_closed 16 = .ok (.invokestatic 41, 3) := dk_184 0 41 (dk_at dksX1_closed_0 16 rfl rfl)
theorem dX1_closed_19 : decode cX1_closed 19 = .ok (.aload_n 0, 1) := dk_42 (dk_at dksX1_closed_0 19 rfl rfl)
theorem dX1_closed_20 : decode cX1_closed 20 = .ok (.getfield 10, 3) := dk_180 0 10 (dk_at dksX1_closed_0 20 rfl rfl)
theorem dX1_closed_23 : decode cX1_closed 23 = .ok (.iload_n 1, 1) := dk_27 (dk_at dksX1_closed_0 23 rfl rfl)
theorem dX1_closed_24 : decode cX1_closed 24 = .ok (.invokeinterface 91 2, 5) := by decide +kernel
theorem dX1_closed_29 : decode cX1_closed 29 = .ok (.checkcast 16, 3) := dk_192 0 16 (dk_at dksX1_closed_1 5 rfl rfl)
theorem dX1_closed_32 : decode cX1_closed 32 = .ok (.areturn, 1) := dk_176 (dk_at dksX1_closed_1 8 rfl rfl)
abbrev cX1_run : ByteArray := prog_1_method_14_code
def yX1_run : MethodName := ⟨RX1, "run", "(I)I"⟩
def dkwX1_run_4 : List UInt8 := [180, 0, 186, 21, 4, 100, 181, 0, 186, 132, 3, 1, 167, 255, 187, 42, 182, 0, 189, 172]
abbrev dktX1_run_4 : List UInt8 := dkwX1_run_4 ++ []
def dkwX1_run_3 : List UInt8 := [180, 0, 183, 29, 92, 46, 21, 4, 96, 79, 42, 180, 0, 27, 29, 92, 46, 21, 4, 96, 79, 42, 89]
abbrev dktX1_run_3 : List UInt8 := dkwX1_run_3 ++ dktX1_run_4
def dkwX1_run_2 : List UInt8 := [153, 0, 7, 3, 167, 0, 15, 44, 29, 184, 0, 179, 44, 180, 0, 183, 29, 46, 100, 54, 4, 44]
abbrev dktX1_run_2 : List UInt8 := dkwX1_run_2 ++ dktX1_run_3
def dkwX1_run_1 : List UInt8 := [180, 0, 176, 4, 96, 181, 0, 176, 3, 62, 29, 16, 6, 162, 0, 69, 42, 180, 0, 33, 29, 51]
abbrev dktX1_run_1 : List UInt8 := dkwX1_run_1 ++ dktX1_run_2
def dkwX1_run_0 : List UInt8 := [42, 27, 182, 0, 160, 77, 44, 180, 0, 176, 6, 162, 0, 7, 4, 167, 0, 4, 3, 184, 0, 54, 44, 89]
abbrev dktX1_run_0 : List UInt8 := dkwX1_run_0 ++ dktX1_run_1
theorem dksX1_run_0 : cX1_run.data.toList.drop 0 = dktX1_run_0 := by decide +kernel
theorem dksX1_run_1 : cX1_run.data.toList.drop 24 = dktX1_run_1 := dk_seg dksX1_run_0 24 rfl rfl
theorem dksX1_run_2 : cX1_run.data.toList.drop 46 = dktX1_run_2 := dk_seg dksX1_run_1 22 rfl rfl
theorem dksX1_run_3 : cX1_run.data.toList.drop 68 = dktX1_run_3 := dk_seg dksX1_run_2 22 rfl rfl
theorem dksX1_run_4 : cX1_run.data.toList.drop 91 = dktX1_run_4 := dk_seg dksX1_run_3 23 rfl rfl
theorem dX1_run_0 : decode cX1_run 0 = .ok (.aload_n 0, 1) := dk_42 (dk_at dksX1_run_0 0 rfl rfl)
theorem dX1_run_1 : decode cX1_run 1 = .ok (.iload_n 1, 1) := dk_27 (dk_at dksX1_run_0 1 rfl rfl)
theorem dX1_run_2 : decode cX1_run 2 = .ok (.invokevirtual 160, 3) := dk_182 0 160 (dk_at dksX1_run_0 2 rfl rfl)
theorem dX1_run_5 : decode cX1_run 5 = .ok (.astore_n 2, 1) := dk_77 (dk_at dksX1_run_0 5 rfl rfl)
theorem dX1_run_6 : decode cX1_run 6 = .ok (.aload_n 2, 1) := dk_44 (dk_at dksX1_run_0 6 rfl rfl)
theorem dX1_run_7 : decode cX1_run 7 = .ok (.getfield 176, 3) := dk_180 0 176 (dk_at dksX1_run_0 7 rfl rfl)
theorem dX1_run_10 : decode cX1_run 10 = .ok (.iconst 3, 1) := dk_6 (dk_at dksX1_run_0 10 rfl rfl)
theorem dX1_run_11 : decode cX1_run 11 = .ok (.if_icmp .ge 7, 3) := dk_162 0 7 (dk_at dksX1_run_0 11 rfl rfl)
theorem dX1_run_14 : decode cX1_run 14 = .ok (.iconst 1, 1) := dk_4 (dk_at dksX1_run_0 14 rfl rfl)
theorem dX1_run_15 : decode cX1_run 15 = .ok (.goto 4, 3) := dk_167 0 4 (dk_at dksX1_run_0 15 rfl rfl)
theorem dX1_run_18 : decode cX1_run 18 = .ok (.iconst 0, 1) := dk_3 (dk_at dksX1_run_0 18 rfl rfl)
theorem dX1_run_19 : decode cX1_run 19 = .ok (.invokestatic 54, 3) := dk_184 0 54 (dk_at dksX1_run_0 19 rfl rfl)
theorem dX1_run_22 : decode cX1_run 22 = .ok (.aload_n 2, 1) := dk_44 (dk_at dksX1_run_0 22 rfl rfl)
theorem dX1_run_23 : decode cX1_run 23 = .ok (.dup, 1) := dk_89 (dk_at dksX1_run_0 23 rfl rfl)
theorem dX1_run_24 : decode cX1_run 24 = .ok (.getfield 176, 3) := dk_180 0 176 (dk_at dksX1_run_1 0 rfl rfl)
theorem dX1_run_27 : decode cX1_run 27 = .ok (.iconst 1, 1) := dk_4 (dk_at dksX1_run_1 3 rfl rfl)
theorem dX1_run_28 : decode cX1_run 28 = .ok (.iadd, 1) := dk_96 (dk_at dksX1_run_1 4 rfl rfl)
theorem dX1_run_29 : decode cX1_run 29 = .ok (.putfield 176, 3) := dk_181 0 176 (dk_at dksX1_run_1 5 rfl rfl)
theorem dX1_run_32 : decode cX1_run 32 = .ok (.iconst 0, 1) := dk_3 (dk_at dksX1_run_1 8 rfl rfl)
theorem dX1_run_33 : decode cX1_run 33 = .ok (.istore_n 3, 1) := dk_62 (dk_at dksX1_run_1 9 rfl rfl)
theorem dX1_run_34 : decode cX1_run 34 = .ok (.iload_n 3, 1) := dk_29 (dk_at dksX1_run_1 10 rfl rfl)
theorem dX1_run_35 : decode cX1_run 35 = .ok (.bipush 6, 2) := dk_16 6 (dk_at dksX1_run_1 11 rfl rfl)
theorem dX1_run_37 : decode cX1_run 37 = .ok (.if_icmp .ge 69, 3) := dk_162 0 69 (dk_at dksX1_run_1 13 rfl rfl)
theorem dX1_run_40 : decode cX1_run 40 = .ok (.aload_n 0, 1) := dk_42 (dk_at dksX1_run_1 16 rfl rfl)
theorem dX1_run_41 : decode cX1_run 41 = .ok (.getfield 33, 3) := dk_180 0 33 (dk_at dksX1_run_1 17 rfl rfl)
theorem dX1_run_44 : decode cX1_run 44 = .ok (.iload_n 3, 1) := dk_29 (dk_at dksX1_run_1 20 rfl rfl)
theorem dX1_run_45 : decode cX1_run 45 = .ok (.baload, 1) := dk_51 (dk_at dksX1_run_1 21 rfl rfl)
theorem dX1_run_46 : decode cX1_run 46 = .ok (.ifCond .eq 7, 3) := dk_153 0 7 (dk_at dksX1_run_2 0 rfl rfl)
theorem dX1_run_49 : decode cX1_run 49 = .ok (.iconst 0, 1) := dk_3 (dk_at dksX1_run_2 3 rfl rfl)
theorem dX1_run_50 : decode cX1_run 50 = .ok (.goto 15, 3) := dk_167 0 15 (dk_at dksX1_run_2 4 rfl rfl)
theorem dX1_run_53 : decode cX1_run 53 = .ok (.aload_n 2, 1) := dk_44 (dk_at dksX1_run_2 7 rfl rfl)
theorem dX1_run_54 : decode cX1_run 54 = .ok (.iload_n 3, 1) := dk_29 (dk_at dksX1_run_2 8 rfl rfl)
theorem dX1_run_55 : decode cX1_run 55 = .ok (.invokestatic 179, 3) := dk_184 0 179 (dk_at dksX1_run_2 9 rfl rfl)
theorem dX1_run_58 : decode cX1_run 58 = .ok (.aload_n 2, 1) := dk_44 (dk_at dksX1_run_2 12 rfl rfl)
theorem dX1_run_59 : decode cX1_run 59 = .ok (.getfield 183, 3) := dk_180 0 183 (dk_at dksX1_run_2 13 rfl rfl)
theorem dX1_run_62 : decode cX1_run 62 = .ok (.iload_n 3, 1) := dk_29 (dk_at dksX1_run_2 16 rfl rfl)
theorem dX1_run_63 : decode cX1_run 63 = .ok (.iaload, 1) := dk_46 (dk_at dksX1_run_2 17 rfl rfl)
theorem dX1_run_64 : decode cX1_run 64 = .ok (.isub, 1) := dk_100 (dk_at dksX1_run_2 18 rfl rfl)
theorem dX1_run_65 : decode cX1_run 65 = .ok (.istore 4, 2) := dk_54 4 (dk_at dksX1_run_2 19 rfl rfl)
theorem dX1_run_67 : decode cX1_run 67 = .ok (.aload_n 2, 1) := dk_44 (dk_at dksX1_run_2 21 rfl rfl)
theorem dX1_run_68 : decode cX1_run 68 = .ok (.getfield 183, 3) := dk_180 0 183 (dk_at dksX1_run_3 0 rfl rfl)
theorem dX1_run_71 : decode cX1_run 71 = .ok (.iload_n 3, 1) := dk_29 (dk_at dksX1_run_3 3 rfl rfl)
theorem dX1_run_72 : decode cX1_run 72 = .ok (.dup2, 1) := dk_92 (dk_at dksX1_run_3 4 rfl rfl)
theorem dX1_run_73 : decode cX1_run 73 = .ok (.iaload, 1) := dk_46 (dk_at dksX1_run_3 5 rfl rfl)
theorem dX1_run_74 : decode cX1_run 74 = .ok (.iload 4, 2) := dk_21 4 (dk_at dksX1_run_3 6 rfl rfl)
theorem dX1_run_76 : decode cX1_run 76 = .ok (.iadd, 1) := dk_96 (dk_at dksX1_run_3 8 rfl rfl)
theorem dX1_run_77 : decode cX1_run 77 = .ok (.iastore, 1) := dk_79 (dk_at dksX1_run_3 9 rfl rfl)
theorem dX1_run_78 : decode cX1_run 78 = .ok (.aload_n 0, 1) := dk_42 (dk_at dksX1_run_3 10 rfl rfl)
theorem dX1_run_79 : decode cX1_run 79 = .ok (.getfield 27, 3) := dk_180 0 27 (dk_at dksX1_run_3 11 rfl rfl)
theorem dX1_run_82 : decode cX1_run 82 = .ok (.iload_n 3, 1) := dk_29 (dk_at dksX1_run_3 14 rfl rfl)
theorem dX1_run_83 : decode cX1_run 83 = .ok (.dup2, 1) := dk_92 (dk_at dksX1_run_3 15 rfl rfl)
theorem dX1_run_84 : decode cX1_run 84 = .ok (.iaload, 1) := dk_46 (dk_at dksX1_run_3 16 rfl rfl)
theorem dX1_run_85 : decode cX1_run 85 = .ok (.iload 4, 2) := dk_21 4 (dk_at dksX1_run_3 17 rfl rfl)
theorem dX1_run_87 : decode cX1_run 87 = .ok (.iadd, 1) := dk_96 (dk_at dksX1_run_3 19 rfl rfl)
theorem dX1_run_88 : decode cX1_run 88 = .ok (.iastore, 1) := dk_79 (dk_at dksX1_run_3 20 rfl rfl)
theorem dX1_run_89 : decode cX1_run 89 = .ok (.aload_n 0, 1) := dk_42 (dk_at dksX1_run_3 21 rfl rfl)
theorem dX1_run_90 : decode cX1_run 90 = .ok (.dup, 1) := dk_89 (dk_at dksX1_run_3 22 rfl rfl)
theorem dX1_run_91 : decode cX1_run 91 = .ok (.getfield 186, 3) := dk_180 0 186 (dk_at dksX1_run_4 0 rfl rfl)
theorem dX1_run_94 : decode cX1_run 94 = .ok (.iload 4, 2) := dk_21 4 (dk_at dksX1_run_4 3 rfl rfl)
theorem dX1_run_96 : decode cX1_run 96 = .ok (.isub, 1) := dk_100 (dk_at dksX1_run_4 5 rfl rfl)
theorem dX1_run_97 : decode cX1_run 97 = .ok (.putfield 186, 3) := dk_181 0 186 (dk_at dksX1_run_4 6 rfl rfl)
theorem dX1_run_100 : decode cX1_run 100 = .ok (.iinc 3 1, 3) := dk_132 3 1 (dk_at dksX1_run_4 9 rfl rfl)
theorem dX1_run_103 : decode cX1_run 103 = .ok (.goto (-69), 3) := dk_167 255 187 (dk_at dksX1_run_4 12 rfl rfl)
theorem dX1_run_106 : decode cX1_run 106 = .ok (.aload_n 0, 1) := dk_42 (dk_at dksX1_run_4 15 rfl rfl)
theorem dX1_run_107 : decode cX1_run 107 = .ok (.invokevirtual 189, 3) := dk_182 0 189 (dk_at dksX1_run_4 16 rfl rfl)
theorem dX1_run_110 : decode cX1_run 110 = .ok (.ireturn, 1) := dk_172 (dk_at dksX1_run_4 19 rfl rfl)
abbrev cX1_billOf : ByteArray := prog_1_method_61_code
def yX1_billOf : MethodName := ⟨RX1, "billOf", "(LGridMarket$Day;I)I"⟩
def dkwX1_billOf_8 : List UInt8 := [21, 8, 116, 96, 61, 132, 7, 1, 167, 255, 194, 132, 3, 1, 167, 255, 66, 28, 172]
abbrev dktX1_billOf_8 : List UInt8 := dkwX1_billOf_8 ++ []
def dkwX1_billOf_7 : List UInt8 := [21, 7, 46, 21, 5, 104, 167, 0, 4, 3, 54, 8, 28, 21, 4, 156, 0, 8, 21, 8, 167, 0, 6]
abbrev dktX1_billOf_7 : List UInt8 := dkwX1_billOf_7 ++ dktX1_billOf_8
def dkwX1_billOf_6 : List UInt8 := [42, 180, 0, 152, 21, 7, 185, 0, 91, 2, 0, 192, 0, 155, 180, 1, 157, 27, 160, 0, 14, 25, 6]
abbrev dktX1_billOf_6 : List UInt8 := dkwX1_billOf_6 ++ dktX1_billOf_7
def dkwX1_billOf_5 : List UInt8 := [132, 6, 1, 167, 255, 169, 42, 29, 184, 1, 138, 58, 6, 3, 54, 7, 21, 7, 25, 6, 190, 162, 0, 60]
abbrev dktX1_billOf_5 : List UInt8 := dkwX1_billOf_5 ++ dktX1_billOf_6
def dkwX1_billOf_4 : List UInt8 := [153, 0, 8, 21, 5, 167, 0, 15, 42, 180, 0, 57, 180, 0, 196, 29, 50, 21, 6, 46, 104, 96, 61]
abbrev dktX1_billOf_4 : List UInt8 := dkwX1_billOf_4 ++ dktX1_billOf_5
def dkwX1_billOf_3 : List UInt8 := [156, 0, 7, 4, 167, 0, 4, 3, 160, 0, 7, 4, 167, 0, 4, 3, 54, 8, 28, 21, 7, 21, 8]
abbrev dktX1_billOf_3 : List UInt8 := dkwX1_billOf_3 ++ dktX1_billOf_4
def dkwX1_billOf_2 : List UInt8 := [21, 4, 153, 0, 35, 21, 7, 153, 0, 30, 21, 7, 156, 0, 7, 4, 167, 0, 4, 3, 21, 4]
abbrev dktX1_billOf_2 : List UInt8 := dkwX1_billOf_2 ++ dktX1_billOf_3
def dkwX1_billOf_1 : List UInt8 := [184, 0, 249, 54, 5, 3, 54, 6, 21, 6, 6, 162, 0, 87, 42, 27, 21, 6, 29, 182, 0, 172, 54, 7]
abbrev dktX1_billOf_1 : List UInt8 := dkwX1_billOf_1 ++ dktX1_billOf_2
def dkwX1_billOf_0 : List UInt8 := [42, 27, 184, 1, 154, 61, 3, 62, 29, 7, 162, 0, 191, 42, 29, 182, 0, 246, 54, 4, 42, 29]
abbrev dktX1_billOf_0 : List UInt8 := dkwX1_billOf_0 ++ dktX1_billOf_1
theorem dksX1_billOf_0 : cX1_billOf.data.toList.drop 0 = dktX1_billOf_0 := by decide +kernel
theorem dksX1_billOf_1 : cX1_billOf.data.toList.drop 22 = dktX1_billOf_1 := dk_seg dksX1_billOf_0 22 rfl rfl
theorem dksX1_billOf_2 : cX1_billOf.data.toList.drop 46 = dktX1_billOf_2 := dk_seg dksX1_billOf_1 24 rfl rfl
theorem dksX1_billOf_3 : cX1_billOf.data.toList.drop 68 = dktX1_billOf_3 := dk_seg dksX1_billOf_2 22 rfl rfl
theorem dksX1_billOf_4 : cX1_billOf.data.toList.drop 91 = dktX1_billOf_4 := dk_seg dksX1_billOf_3 23 rfl rfl
theorem dksX1_billOf_5 : cX1_billOf.data.toList.drop 114 = dktX1_billOf_5 := dk_seg dksX1_billOf_4 23 rfl rfl
theorem dksX1_billOf_6 : cX1_billOf.data.toList.drop 138 = dktX1_billOf_6 := dk_seg dksX1_billOf_5 24 rfl rfl
theorem dksX1_billOf_7 : cX1_billOf.data.toList.drop 161 = dktX1_billOf_7 := dk_seg dksX1_billOf_6 23 rfl rfl
theorem dksX1_billOf_8 : cX1_billOf.data.toList.drop 184 = dktX1_billOf_8 := dk_seg dksX1_billOf_7 23 rfl rfl
theorem dX1_billOf_0 : decode cX1_billOf 0 = .ok (.aload_n 0, 1) := dk_42 (dk_at dksX1_billOf_0 0 rfl rfl)
theorem dX1_billOf_1 : decode cX1_billOf 1 = .ok (.iload_n 1, 1) := dk_27 (dk_at dksX1_billOf_0 1 rfl rfl)
theorem dX1_billOf_2 : decode cX1_billOf 2 = .ok (.invokestatic 410, 3) := dk_184 1 154 (dk_at dksX1_billOf_0 2 rfl rfl)
theorem dX1_billOf_5 : decode cX1_billOf 5 = .ok (.istore_n 2, 1) := dk_61 (dk_at dksX1_billOf_0 5 rfl rfl)
theorem dX1_billOf_6 : decode cX1_billOf 6 = .ok (.iconst 0, 1) := dk_3 (dk_at dksX1_billOf_0 6 rfl rfl)
theorem dX1_billOf_7 : decode cX1_billOf 7 = .ok (.istore_n 3, 1) := dk_62 (dk_at dksX1_billOf_0 7 rfl rfl)
theorem dX1_billOf_8 : decode cX1_billOf 8 = .ok (.iload_n 3, 1) := dk_29 (dk_at dksX1_billOf_0 8 rfl rfl)
theorem dX1_billOf_9 : decode cX1_billOf 9 = .ok (.iconst 4, 1) := dk_7 (dk_at dksX1_billOf_0 9 rfl rfl)
theorem dX1_billOf_10 : decode cX1_billOf 10 = .ok (.if_icmp .ge 191, 3) := dk_162 0 191 (dk_at dksX1_billOf_0 10 rfl rfl)
theorem dX1_billOf_13 : decode cX1_billOf 13 = .ok (.aload_n 0, 1) := dk_42 (dk_at dksX1_billOf_0 13 rfl rfl)
theorem dX1_billOf_14 : decode cX1_billOf 14 = .ok (.iload_n 3, 1) := dk_29 (dk_at dksX1_billOf_0 14 rfl rfl)
theorem dX1_billOf_15 : decode cX1_billOf 15 = .ok (.invokevirtual 246, 3) := dk_182 0 246 (dk_at dksX1_billOf_0 15 rfl rfl)
theorem dX1_billOf_18 : decode cX1_billOf 18 = .ok (.istore 4, 2) := dk_54 4 (dk_at dksX1_billOf_0 18 rfl rfl)
theorem dX1_billOf_20 : decode cX1_billOf 20 = .ok (.aload_n 0, 1) := dk_42 (dk_at dksX1_billOf_0 20 rfl rfl)
theorem dX1_billOf_21 : decode cX1_billOf 21 = .ok (.iload_n 3, 1) := dk_29 (dk_at dksX1_billOf_0 21 rfl rfl)
theorem dX1_billOf_22 : decode cX1_billOf 22 = .ok (.invokestatic 249, 3) := dk_184 0 249 (dk_at dksX1_billOf_1 0 rfl rfl)
theorem dX1_billOf_25 : decode cX1_billOf 25 = .ok (.istore 5, 2) := dk_54 5 (dk_at dksX1_billOf_1 3 rfl rfl)
theorem dX1_billOf_27 : decode cX1_billOf 27 = .ok (.iconst 0, 1) := dk_3 (dk_at dksX1_billOf_1 5 rfl rfl)
theorem dX1_billOf_28 : decode cX1_billOf 28 = .ok (.istore 6, 2) := dk_54 6 (dk_at dksX1_billOf_1 6 rfl rfl)
theorem dX1_billOf_30 : decode cX1_billOf 30 = .ok (.iload 6, 2) := dk_21 6 (dk_at dksX1_billOf_1 8 rfl rfl)
theorem dX1_billOf_32 : decode cX1_billOf 32 = .ok (.iconst 3, 1) := dk_6 (dk_at dksX1_billOf_1 10 rfl rfl)
theorem dX1_billOf_33 : decode cX1_billOf 33 = .ok (.if_icmp .ge 87, 3) := dk_162 0 87 (dk_at dksX1_billOf_1 11 rfl rfl)
theorem dX1_billOf_36 : decode cX1_billOf 36 = .ok (.aload_n 0, 1) := dk_42 (dk_at dksX1_billOf_1 14 rfl rfl)
theorem dX1_billOf_37 : decode cX1_billOf 37 = .ok (.iload_n 1, 1) := dk_27 (dk_at dksX1_billOf_1 15 rfl rfl)
theorem dX1_billOf_38 : decode cX1_billOf 38 = .ok (.iload 6, 2) := dk_21 6 (dk_at dksX1_billOf_1 16 rfl rfl)
theorem dX1_billOf_40 : decode cX1_billOf 40 = .ok (.iload_n 3, 1) := dk_29 (dk_at dksX1_billOf_1 18 rfl rfl)
theorem dX1_billOf_41 : decode cX1_billOf 41 = .ok (.invokevirtual 172, 3) := dk_182 0 172 (dk_at dksX1_billOf_1 19 rfl rfl)
theorem dX1_billOf_44 : decode cX1_billOf 44 = .ok (.istore 7, 2) := dk_54 7 (dk_at dksX1_billOf_1 22 rfl rfl)
theorem dX1_billOf_46 : decode cX1_billOf 46 = .ok (.iload 4, 2) := dk_21 4 (dk_at dksX1_billOf_2 0 rfl rfl)
theorem dX1_billOf_48 : decode cX1_billOf 48 = .ok (.ifCond .eq 35, 3) := dk_153 0 35 (dk_at dksX1_billOf_2 2 rfl rfl)
theorem dX1_billOf_51 : decode cX1_billOf 51 = .ok (.iload 7, 2) := dk_21 7 (dk_at dksX1_billOf_2 5 rfl rfl)
theorem dX1_billOf_53 : decode cX1_billOf 53 = .ok (.ifCond .eq 30, 3) := dk_153 0 30 (dk_at dksX1_billOf_2 7 rfl rfl)
theorem dX1_billOf_56 : decode cX1_billOf 56 = .ok (.iload 7, 2) := dk_21 7 (dk_at dksX1_billOf_2 10 rfl rfl)
theorem dX1_billOf_58 : decode cX1_billOf 58 = .ok (.ifCond .ge 7, 3) := dk_156 0 7 (dk_at dksX1_billOf_2 12 rfl rfl)
theorem dX1_billOf_61 : decode cX1_billOf 61 = .ok (.iconst 1, 1) := dk_4 (dk_at dksX1_billOf_2 15 rfl rfl)
theorem dX1_billOf_62 : decode cX1_billOf 62 = .ok (.goto 4, 3) := dk_167 0 4 (dk_at dksX1_billOf_2 16 rfl rfl)
theorem dX1_billOf_65 : decode cX1_billOf 65 = .ok (.iconst 0, 1) := dk_3 (dk_at dksX1_billOf_2 19 rfl rfl)
theorem dX1_billOf_66 : decode cX1_billOf 66 = .ok (.iload 4, 2) := dk_21 4 (dk_at dksX1_billOf_2 20 rfl rfl)
theorem dX1_billOf_68 : decode cX1_billOf 68 = .ok (.ifCond .ge 7, 3) := dk_156 0 7 (dk_at dksX1_billOf_3 0 rfl rfl)
theorem dX1_billOf_71 : decode cX1_billOf 71 = .ok (.iconst 1, 1) := dk_4 (dk_at dksX1_billOf_3 3 rfl rfl)
theorem dX1_billOf_72 : decode cX1_billOf 72 = .ok (.goto 4, 3) := dk_167 0 4 (dk_at dksX1_billOf_3 4 rfl rfl)
theorem dX1_billOf_75 : decode cX1_billOf 75 = .ok (.iconst 0, 1) := dk_3 (dk_at dksX1_billOf_3 7 rfl rfl)
theorem dX1_billOf_76 : decode cX1_billOf 76 = .ok (.if_icmp .ne 7, 3) := dk_160 0 7 (dk_at dksX1_billOf_3 8 rfl rfl)
theorem dX1_billOf_79 : decode cX1_billOf 79 = .ok (.iconst 1, 1) := dk_4 (dk_at dksX1_billOf_3 11 rfl rfl)
theorem dX1_billOf_80 : decode cX1_billOf 80 = .ok (.goto 4, 3) := dk_167 0 4 (dk_at dksX1_billOf_3 12 rfl rfl)
theorem dX1_billOf_83 : decode cX1_billOf 83 = .ok (.iconst 0, 1) := dk_3 (dk_at dksX1_billOf_3 15 rfl rfl)
theorem dX1_billOf_84 : decode cX1_billOf 84 = .ok (.istore 8, 2) := dk_54 8 (dk_at dksX1_billOf_3 16 rfl rfl)
theorem dX1_billOf_86 : decode cX1_billOf 86 = .ok (.iload_n 2, 1) := dk_28 (dk_at dksX1_billOf_3 18 rfl rfl)
theorem dX1_billOf_87 : decode cX1_billOf 87 = .ok (.iload 7, 2) := dk_21 7 (dk_at dksX1_billOf_3 19 rfl rfl)
theorem dX1_billOf_89 : decode cX1_billOf 89 = .ok (.iload 8, 2) := dk_21 8 (dk_at dksX1_billOf_3 21 rfl rfl)
theorem dX1_billOf_91 : decode cX1_billOf 91 = .ok (.ifCond .eq 8, 3) := dk_153 0 8 (dk_at dksX1_billOf_4 0 rfl rfl)
theorem dX1_billOf_94 : decode cX1_billOf 94 = .ok (.iload 5, 2) := dk_21 5 (dk_at dksX1_billOf_4 3 rfl rfl)
theorem dX1_billOf_96 : decode cX1_billOf 96 = .ok (.goto 15, 3) := dk_167 0 15 (dk_at dksX1_billOf_4 5 rfl rfl)
theorem dX1_billOf_99 : decode cX1_billOf 99 = .ok (.aload_n 0, 1) := dk_42 (dk_at dksX1_billOf_4 8 rfl rfl)
theorem dX1_billOf_100 : decode cX1_billOf 100 = .ok (.getfield 57, 3) := dk_180 0 57 (dk_at dksX1_billOf_4 9 rfl rfl)
theorem dX1_billOf_103 : decode cX1_billOf 103 = .ok (.getfield 196, 3) := dk_180 0 196 (dk_at dksX1_billOf_4 12 rfl rfl)
theorem dX1_billOf_106 : decode cX1_billOf 106 = .ok (.iload_n 3, 1) := dk_29 (dk_at dksX1_billOf_4 15 rfl rfl)
theorem dX1_billOf_107 : decode cX1_billOf 107 = .ok (.aaload, 1) := dk_50 (dk_at dksX1_billOf_4 16 rfl rfl)
theorem dX1_billOf_108 : decode cX1_billOf 108 = .ok (.iload 6, 2) := dk_21 6 (dk_at dksX1_billOf_4 17 rfl rfl)
theorem dX1_billOf_110 : decode cX1_billOf 110 = .ok (.iaload, 1) := dk_46 (dk_at dksX1_billOf_4 19 rfl rfl)
theorem dX1_billOf_111 : decode cX1_billOf 111 = .ok (.imul, 1) := dk_104 (dk_at dksX1_billOf_4 20 rfl rfl)
theorem dX1_billOf_112 : decode cX1_billOf 112 = .ok (.iadd, 1) := dk_96 (dk_at dksX1_billOf_4 21 rfl rfl)
theorem dX1_billOf_113 : decode cX1_billOf 113 = .ok (.istore_n 2, 1) := dk_61 (dk_at dksX1_billOf_4 22 rfl rfl)
theorem dX1_billOf_114 : decode cX1_billOf 114 = .ok (.iinc 6 1, 3) := dk_132 6 1 (dk_at dksX1_billOf_5 0 rfl rfl)
theorem dX1_billOf_117 : decode cX1_billOf 117 = .ok (.goto (-87), 3) := dk_167 255 169 (dk_at dksX1_billOf_5 3 rfl rfl)
theorem dX1_billOf_120 : decode cX1_billOf 120 = .ok (.aload_n 0, 1) := dk_42 (dk_at dksX1_billOf_5 6 rfl rfl)
theorem dX1_billOf_121 : decode cX1_billOf 121 = .ok (.iload_n 3, 1) := dk_29 (dk_at dksX1_billOf_5 7 rfl rfl)
theorem dX1_billOf_122 : decode cX1_billOf 122 = .ok (.invokestatic 394, 3) := dk_184 1 138 (dk_at dksX1_billOf_5 8 rfl rfl)
theorem dX1_billOf_125 : decode cX1_billOf 125 = .ok (.astore 6, 2) := dk_58 6 (dk_at dksX1_billOf_5 11 rfl rfl)
theorem dX1_billOf_127 : decode cX1_billOf 127 = .ok (.iconst 0, 1) := dk_3 (dk_at dksX1_billOf_5 13 rfl rfl)
theorem dX1_billOf_128 : decode cX1_billOf 128 = .ok (.istore 7, 2) := dk_54 7 (dk_at dksX1_billOf_5 14 rfl rfl)
theorem dX1_billOf_130 : decode cX1_billOf 130 = .ok (.iload 7, 2) := dk_21 7 (dk_at dksX1_billOf_5 16 rfl rfl)
theorem dX1_billOf_132 : decode cX1_billOf 132 = .ok (.aload 6, 2) := dk_25 6 (dk_at dksX1_billOf_5 18 rfl rfl)
theorem dX1_billOf_134 : decode cX1_billOf 134 = .ok (.arraylength, 1) := dk_190 (dk_at dksX1_billOf_5 20 rfl rfl)
theorem dX1_billOf_135 : decode cX1_billOf 135 = .ok (.if_icmp .ge 60, 3) := dk_162 0 60 (dk_at dksX1_billOf_5 21 rfl rfl)
theorem dX1_billOf_138 : decode cX1_billOf 138 = .ok (.aload_n 0, 1) := dk_42 (dk_at dksX1_billOf_6 0 rfl rfl)
theorem dX1_billOf_139 : decode cX1_billOf 139 = .ok (.getfield 152, 3) := dk_180 0 152 (dk_at dksX1_billOf_6 1 rfl rfl)
theorem dX1_billOf_142 : decode cX1_billOf 142 = .ok (.iload 7, 2) := dk_21 7 (dk_at dksX1_billOf_6 4 rfl rfl)
theorem dX1_billOf_144 : decode cX1_billOf 144 = .ok (.invokeinterface 91 2, 5) := by decide +kernel
theorem dX1_billOf_149 : decode cX1_billOf 149 = .ok (.checkcast 155, 3) := dk_192 0 155 (dk_at dksX1_billOf_6 11 rfl rfl)
theorem dX1_billOf_152 : decode cX1_billOf 152 = .ok (.getfield 413, 3) := dk_180 1 157 (dk_at dksX1_billOf_6 14 rfl rfl)
theorem dX1_billOf_155 : decode cX1_billOf 155 = .ok (.iload_n 1, 1) := dk_27 (dk_at dksX1_billOf_6 17 rfl rfl)
theorem dX1_billOf_156 : decode cX1_billOf 156 = .ok (.if_icmp .ne 14, 3) := dk_160 0 14 (dk_at dksX1_billOf_6 18 rfl rfl)
theorem dX1_billOf_159 : decode cX1_billOf 159 = .ok (.aload 6, 2) := dk_25 6 (dk_at dksX1_billOf_6 21 rfl rfl)
theorem dX1_billOf_161 : decode cX1_billOf 161 = .ok (.iload 7, 2) := dk_21 7 (dk_at dksX1_billOf_7 0 rfl rfl)
theorem dX1_billOf_163 : decode cX1_billOf 163 = .ok (.iaload, 1) := dk_46 (dk_at dksX1_billOf_7 2 rfl rfl)
theorem dX1_billOf_164 : decode cX1_billOf 164 = .ok (.iload 5, 2) := dk_21 5 (dk_at dksX1_billOf_7 3 rfl rfl)
theorem dX1_billOf_166 : decode cX1_billOf 166 = .ok (.imul, 1) := dk_104 (dk_at dksX1_billOf_7 5 rfl rfl)
theorem dX1_billOf_167 : decode cX1_billOf 167 = .ok (.goto 4, 3) := dk_167 0 4 (dk_at dksX1_billOf_7 6 rfl rfl)
theorem dX1_billOf_170 : decode cX1_billOf 170 = .ok (.iconst 0, 1) := dk_3 (dk_at dksX1_billOf_7 9 rfl rfl)
theorem dX1_billOf_171 : decode cX1_billOf 171 = .ok (.istore 8, 2) := dk_54 8 (dk_at dksX1_billOf_7 10 rfl rfl)
theorem dX1_billOf_173 : decode cX1_billOf 173 = .ok (.iload_n 2, 1) := dk_28 (dk_at dksX1_billOf_7 12 rfl rfl)
theorem dX1_billOf_174 : decode cX1_billOf 174 = .ok (.iload 4, 2) := dk_21 4 (dk_at dksX1_billOf_7 13 rfl rfl)
theorem dX1_billOf_176 : decode cX1_billOf 176 = .ok (.ifCond .ge 8, 3) := dk_156 0 8 (dk_at dksX1_billOf_7 15 rfl rfl)
theorem dX1_billOf_179 : decode cX1_billOf 179 = .ok (.iload 8, 2) := dk_21 8 (dk_at dksX1_billOf_7 18 rfl rfl)
theorem dX1_billOf_181 : decode cX1_billOf 181 = .ok (.goto 6, 3) := dk_167 0 6 (dk_at dksX1_billOf_7 20 rfl rfl)
theorem dX1_billOf_184 : decode cX1_billOf 184 = .ok (.iload 8, 2) := dk_21 8 (dk_at dksX1_billOf_8 0 rfl rfl)
theorem dX1_billOf_186 : decode cX1_billOf 186 = .ok (.ineg, 1) := dk_116 (dk_at dksX1_billOf_8 2 rfl rfl)
theorem dX1_billOf_187 : decode cX1_billOf 187 = .ok (.iadd, 1) := dk_96 (dk_at dksX1_billOf_8 3 rfl rfl)
theorem dX1_billOf_188 : decode cX1_billOf 188 = .ok (.istore_n 2, 1) := dk_61 (dk_at dksX1_billOf_8 4 rfl rfl)
theorem dX1_billOf_189 : decode cX1_billOf 189 = .ok (.iinc 7 1, 3) := dk_132 7 1 (dk_at dksX1_billOf_8 5 rfl rfl)
theorem dX1_billOf_192 : decode cX1_billOf 192 = .ok (.goto (-62), 3) := dk_167 255 194 (dk_at dksX1_billOf_8 8 rfl rfl)
theorem dX1_billOf_195 : decode cX1_billOf 195 = .ok (.iinc 3 1, 3) := dk_132 3 1 (dk_at dksX1_billOf_8 11 rfl rfl)
theorem dX1_billOf_198 : decode cX1_billOf 198 = .ok (.goto (-190), 3) := dk_167 255 66 (dk_at dksX1_billOf_8 14 rfl rfl)
theorem dX1_billOf_201 : decode cX1_billOf 201 = .ok (.iload_n 2, 1) := dk_28 (dk_at dksX1_billOf_8 17 rfl rfl)
theorem dX1_billOf_202 : decode cX1_billOf 202 = .ok (.ireturn, 1) := dk_172 (dk_at dksX1_billOf_8 18 rfl rfl)
abbrev cX1_tradesOf : ByteArray := prog_1_method_60_code
def yX1_tradesOf : MethodName := ⟨RX1, "tradesOf", "(LGridMarket$Day;I)I"⟩
def dkwX1_tradesOf_18 : List UInt8 := [180, 1, 150, 104, 167, 0, 4, 3, 96, 61, 167, 255, 174, 28, 172]
abbrev dktX1_tradesOf_18 : List UInt8 := dkwX1_tradesOf_18 ++ []
def dkwX1_tradesOf_17 : List UInt8 := [3, 100, 61, 28, 25, 5, 180, 1, 151, 180, 1, 104, 27, 160, 0, 17, 25, 5, 180, 1, 149, 25, 5]
abbrev dktX1_tradesOf_17 : List UInt8 := dkwX1_tradesOf_17 ++ dktX1_tradesOf_18
def dkwX1_tradesOf_16 : List UInt8 := [180, 1, 145, 180, 1, 104, 27, 160, 0, 17, 25, 5, 180, 1, 149, 25, 5, 180, 1, 150, 104, 167, 0, 4]
abbrev dktX1_tradesOf_16 : List UInt8 := dkwX1_tradesOf_16 ++ dktX1_tradesOf_17
def dkwX1_tradesOf_15 : List UInt8 := [185, 0, 222, 1, 0, 153, 0, 78, 25, 4, 185, 0, 228, 1, 0, 192, 1, 127, 58, 5, 28, 25, 5]
abbrev dktX1_tradesOf_15 : List UInt8 := dkwX1_tradesOf_15 ++ dktX1_tradesOf_16
def dkwX1_tradesOf_14 : List UInt8 := [167, 0, 4, 3, 100, 61, 167, 255, 155, 42, 180, 1, 124, 185, 0, 218, 1, 0, 58, 4, 25, 4]
abbrev dktX1_tradesOf_14 : List UInt8 := dkwX1_tradesOf_14 ++ dktX1_tradesOf_15
def dkwX1_tradesOf_13 : List UInt8 := [104, 96, 61, 132, 6, 1, 167, 255, 204, 28, 25, 5, 180, 1, 144, 27, 160, 0, 11, 25, 5, 180, 1, 99]
abbrev dktX1_tradesOf_13 : List UInt8 := dkwX1_tradesOf_13 ++ dktX1_tradesOf_14
def dkwX1_tradesOf_12 : List UInt8 := [45, 21, 6, 50, 25, 5, 180, 1, 93, 46, 45, 21, 6, 50, 25, 5, 180, 1, 90, 46, 100, 184, 1, 56]
abbrev dktX1_tradesOf_12 : List UInt8 := dkwX1_tradesOf_12 ++ dktX1_tradesOf_13
def dkwX1_tradesOf_11 : List UInt8 := [54, 6, 21, 6, 7, 162, 0, 52, 25, 5, 180, 1, 144, 27, 160, 0, 43, 28, 25, 5, 180, 0, 240, 3]
abbrev dktX1_tradesOf_11 : List UInt8 := dkwX1_tradesOf_11 ++ dktX1_tradesOf_12
def dkwX1_tradesOf_10 : List UInt8 := [25, 4, 185, 0, 222, 1, 0, 153, 0, 97, 25, 4, 185, 0, 228, 1, 0, 192, 0, 105, 58, 5, 3]
abbrev dktX1_tradesOf_10 : List UInt8 := dkwX1_tradesOf_10 ++ dktX1_tradesOf_11
def dkwX1_tradesOf_9 : List UInt8 := [21, 7, 96, 61, 132, 6, 1, 167, 255, 179, 167, 255, 151, 42, 180, 0, 102, 185, 0, 218, 1, 0, 58, 4]
abbrev dktX1_tradesOf_9 : List UInt8 := dkwX1_tradesOf_9 ++ dktX1_tradesOf_10
def dkwX1_tradesOf_8 : List UInt8 := [46, 104, 167, 0, 4, 3, 54, 7, 28, 25, 5, 180, 1, 44, 153, 0, 9, 21, 7, 116, 167, 0, 5]
abbrev dktX1_tradesOf_8 : List UInt8 := dkwX1_tradesOf_8 ++ dktX1_tradesOf_9
def dkwX1_tradesOf_7 : List UInt8 := [25, 5, 21, 6, 182, 1, 42, 153, 0, 22, 25, 5, 180, 1, 45, 45, 21, 6, 50, 25, 5, 180, 1, 39]
abbrev dktX1_tradesOf_7 : List UInt8 := dkwX1_tradesOf_7 ++ dktX1_tradesOf_8
def dkwX1_tradesOf_6 : List UInt8 := [21, 6, 7, 162, 0, 77, 25, 5, 180, 1, 143, 27, 160, 0, 40, 25, 5, 180, 0, 210, 153, 0, 32]
abbrev dktX1_tradesOf_6 : List UInt8 := dkwX1_tradesOf_6 ++ dktX1_tradesOf_7
def dkwX1_tradesOf_5 : List UInt8 := [185, 0, 222, 1, 0, 153, 0, 101, 25, 4, 185, 0, 228, 1, 0, 192, 0, 88, 58, 5, 3, 54, 6]
abbrev dktX1_tradesOf_5 : List UInt8 := dkwX1_tradesOf_5 ++ dktX1_tradesOf_6
def dkwX1_tradesOf_4 : List UInt8 := [21, 6, 96, 61, 167, 255, 181, 42, 180, 0, 85, 185, 0, 218, 1, 0, 58, 4, 25, 4]
abbrev dktX1_tradesOf_4 : List UInt8 := dkwX1_tradesOf_4 ++ dktX1_tradesOf_5
def dkwX1_tradesOf_3 : List UInt8 := [46, 104, 167, 0, 4, 3, 54, 6, 28, 25, 5, 180, 0, 232, 153, 0, 9, 21, 6, 116, 167, 0, 5]
abbrev dktX1_tradesOf_3 : List UInt8 := dkwX1_tradesOf_3 ++ dktX1_tradesOf_4
def dkwX1_tradesOf_2 : List UInt8 := [180, 1, 142, 27, 160, 0, 25, 25, 5, 180, 0, 207, 45, 25, 5, 180, 1, 73, 50, 25, 5, 180, 1, 76]
abbrev dktX1_tradesOf_2 : List UInt8 := dkwX1_tradesOf_2 ++ dktX1_tradesOf_3
def dkwX1_tradesOf_1 : List UInt8 := [185, 0, 222, 1, 0, 153, 0, 71, 25, 4, 185, 0, 228, 1, 0, 192, 0, 76, 58, 5, 25, 5]
abbrev dktX1_tradesOf_1 : List UInt8 := dkwX1_tradesOf_1 ++ dktX1_tradesOf_2
def dkwX1_tradesOf_0 : List UInt8 := [3, 61, 42, 180, 0, 57, 180, 0, 196, 78, 42, 180, 0, 67, 185, 0, 218, 1, 0, 58, 4, 25, 4]
abbrev dktX1_tradesOf_0 : List UInt8 := dkwX1_tradesOf_0 ++ dktX1_tradesOf_1
theorem dksX1_tradesOf_0 : cX1_tradesOf.data.toList.drop 0 = dktX1_tradesOf_0 := by decide +kernel
theorem dksX1_tradesOf_1 : cX1_tradesOf.data.toList.drop 23 = dktX1_tradesOf_1 := dk_seg dksX1_tradesOf_0 23 rfl rfl
theorem dksX1_tradesOf_2 : cX1_tradesOf.data.toList.drop 45 = dktX1_tradesOf_2 := dk_seg dksX1_tradesOf_1 22 rfl rfl
theorem dksX1_tradesOf_3 : cX1_tradesOf.data.toList.drop 69 = dktX1_tradesOf_3 := dk_seg dksX1_tradesOf_2 24 rfl rfl
theorem dksX1_tradesOf_4 : cX1_tradesOf.data.toList.drop 92 = dktX1_tradesOf_4 := dk_seg dksX1_tradesOf_3 23 rfl rfl
theorem dksX1_tradesOf_5 : cX1_tradesOf.data.toList.drop 112 = dktX1_tradesOf_5 := dk_seg dksX1_tradesOf_4 20 rfl rfl
theorem dksX1_tradesOf_6 : cX1_tradesOf.data.toList.drop 135 = dktX1_tradesOf_6 := dk_seg dksX1_tradesOf_5 23 rfl rfl
theorem dksX1_tradesOf_7 : cX1_tradesOf.data.toList.drop 158 = dktX1_tradesOf_7 := dk_seg dksX1_tradesOf_6 23 rfl rfl
theorem dksX1_tradesOf_8 : cX1_tradesOf.data.toList.drop 182 = dktX1_tradesOf_8 := dk_seg dksX1_tradesOf_7 24 rfl rfl
theorem dksX1_tradesOf_9 : cX1_tradesOf.data.toList.drop 205 = dktX1_tradesOf_9 := dk_seg dksX1_tradesOf_8 23 rfl rfl
theorem dksX1_tradesOf_10 : cX1_tradesOf.data.toList.drop 229 = dktX1_tradesOf_10 := dk_seg dksX1_tradesOf_9 24 rfl rfl
theorem dksX1_tradesOf_11 : cX1_tradesOf.data.toList.drop 252 = dktX1_tradesOf_11 := dk_seg dksX1_tradesOf_10 23 rfl rfl
theorem dksX1_tradesOf_12 : cX1_tradesOf.data.toList.drop 276 = dktX1_tradesOf_12 := dk_seg dksX1_tradesOf_11 24 rfl rfl
theorem dksX1_tradesOf_13 : cX1_tradesOf.data.toList.drop 300 = dktX1_tradesOf_13 := dk_seg dksX1_tradesOf_12 24 rfl rfl
theorem dksX1_tradesOf_14 : cX1_tradesOf.data.toList.drop 324 = dktX1_tradesOf_14 := dk_seg dksX1_tradesOf_13 24 rfl rfl
theorem dksX1_tradesOf_15 : cX1_tradesOf.data.toList.drop 346 = dktX1_tradesOf_15 := dk_seg dksX1_tradesOf_14 22 rfl rfl
theorem dksX1_tradesOf_16 : cX1_tradesOf.data.toList.drop 369 = dktX1_tradesOf_16 := dk_seg dksX1_tradesOf_15 23 rfl rfl
theorem dksX1_tradesOf_17 : cX1_tradesOf.data.toList.drop 393 = dktX1_tradesOf_17 := dk_seg dksX1_tradesOf_16 24 rfl rfl
theorem dksX1_tradesOf_18 : cX1_tradesOf.data.toList.drop 416 = dktX1_tradesOf_18 := dk_seg dksX1_tradesOf_17 23 rfl rfl
theorem dX1_tradesOf_0 : decode cX1_tradesOf 0 = .ok (.iconst 0, 1) := dk_3 (dk_at dksX1_tradesOf_0 0 rfl rfl)
theorem dX1_tradesOf_1 : decode cX1_tradesOf 1 = .ok (.istore_n 2, 1) := dk_61 (dk_at dksX1_tradesOf_0 1 rfl rfl)
theorem dX1_tradesOf_2 : decode cX1_tradesOf 2 = .ok (.aload_n 0, 1) := dk_42 (dk_at dksX1_tradesOf_0 2 rfl rfl)
theorem dX1_tradesOf_3 : decode cX1_tradesOf 3 = .ok (.getfield 57, 3) := dk_180 0 57 (dk_at dksX1_tradesOf_0 3 rfl rfl)
theorem dX1_tradesOf_6 : decode cX1_tradesOf 6 = .ok (.getfield 196, 3) := dk_180 0 196 (dk_at dksX1_tradesOf_0 6 rfl rfl)
theorem dX1_tradesOf_9 : decode cX1_tradesOf 9 = .ok (.astore_n 3, 1) := dk_78 (dk_at dksX1_tradesOf_0 9 rfl rfl)
theorem dX1_tradesOf_10 : decode cX1_tradesOf 10 = .ok (.aload_n 0, 1) := dk_42 (dk_at dksX1_tradesOf_0 10 rfl rfl)
theorem dX1_tradesOf_11 : decode cX1_tradesOf 11 = .ok (.getfield 67, 3) := dk_180 0 67 (dk_at dksX1_tradesOf_0 11 rfl rfl)
theorem dX1_tradesOf_14 : decode cX1_tradesOf 14 = .ok (.invokeinterface 218 1, 5) := by decide +kernel
theorem dX1_tradesOf_19 : decode cX1_tradesOf 19 = .ok (.astore 4, 2) := dk_58 4 (dk_at dksX1_tradesOf_0 19 rfl rfl)
theorem dX1_tradesOf_21 : decode cX1_tradesOf 21 = .ok (.aload 4, 2) := dk_25 4 (dk_at dksX1_tradesOf_0 21 rfl rfl)
theorem dX1_tradesOf_23 : decode cX1_tradesOf 23 = .ok (.invokeinterface 222 1, 5) := by decide +kernel
theorem dX1_tradesOf_28 : decode cX1_tradesOf 28 = .ok (.ifCond .eq 71, 3) := dk_153 0 71 (dk_at dksX1_tradesOf_1 5 rfl rfl)
theorem dX1_tradesOf_31 : decode cX1_tradesOf 31 = .ok (.aload 4, 2) := dk_25 4 (dk_at dksX1_tradesOf_1 8 rfl rfl)
theorem dX1_tradesOf_33 : decode cX1_tradesOf 33 = .ok (.invokeinterface 228 1, 5) := by decide +kernel
theorem dX1_tradesOf_38 : decode cX1_tradesOf 38 = .ok (.checkcast 76, 3) := dk_192 0 76 (dk_at dksX1_tradesOf_1 15 rfl rfl)
theorem dX1_tradesOf_41 : decode cX1_tradesOf 41 = .ok (.astore 5, 2) := dk_58 5 (dk_at dksX1_tradesOf_1 18 rfl rfl)
theorem dX1_tradesOf_43 : decode cX1_tradesOf 43 = .ok (.aload 5, 2) := dk_25 5 (dk_at dksX1_tradesOf_1 20 rfl rfl)
theorem dX1_tradesOf_45 : decode cX1_tradesOf 45 = .ok (.getfield 398, 3) := dk_180 1 142 (dk_at dksX1_tradesOf_2 0 rfl rfl)
theorem dX1_tradesOf_48 : decode cX1_tradesOf 48 = .ok (.iload_n 1, 1) := dk_27 (dk_at dksX1_tradesOf_2 3 rfl rfl)
theorem dX1_tradesOf_49 : decode cX1_tradesOf 49 = .ok (.if_icmp .ne 25, 3) := dk_160 0 25 (dk_at dksX1_tradesOf_2 4 rfl rfl)
theorem dX1_tradesOf_52 : decode cX1_tradesOf 52 = .ok (.aload 5, 2) := dk_25 5 (dk_at dksX1_tradesOf_2 7 rfl rfl)
theorem dX1_tradesOf_54 : decode cX1_tradesOf 54 = .ok (.getfield 207, 3) := dk_180 0 207 (dk_at dksX1_tradesOf_2 9 rfl rfl)
theorem dX1_tradesOf_57 : decode cX1_tradesOf 57 = .ok (.aload_n 3, 1) := dk_45 (dk_at dksX1_tradesOf_2 12 rfl rfl)
theorem dX1_tradesOf_58 : decode cX1_tradesOf 58 = .ok (.aload 5, 2) := dk_25 5 (dk_at dksX1_tradesOf_2 13 rfl rfl)
theorem dX1_tradesOf_60 : decode cX1_tradesOf 60 = .ok (.getfield 329, 3) := dk_180 1 73 (dk_at dksX1_tradesOf_2 15 rfl rfl)
theorem dX1_tradesOf_63 : decode cX1_tradesOf 63 = .ok (.aaload, 1) := dk_50 (dk_at dksX1_tradesOf_2 18 rfl rfl)
theorem dX1_tradesOf_64 : decode cX1_tradesOf 64 = .ok (.aload 5, 2) := dk_25 5 (dk_at dksX1_tradesOf_2 19 rfl rfl)
theorem dX1_tradesOf_66 : decode cX1_tradesOf 66 = .ok (.getfield 332, 3) := dk_180 1 76 (dk_at dksX1_tradesOf_2 21 rfl rfl)
theorem dX1_tradesOf_69 : decode cX1_tradesOf 69 = .ok (.iaload, 1) := dk_46 (dk_at dksX1_tradesOf_3 0 rfl rfl)
theorem dX1_tradesOf_70 : decode cX1_tradesOf 70 = .ok (.imul, 1) := dk_104 (dk_at dksX1_tradesOf_3 1 rfl rfl)
theorem dX1_tradesOf_71 : decode cX1_tradesOf 71 = .ok (.goto 4, 3) := dk_167 0 4 (dk_at dksX1_tradesOf_3 2 rfl rfl)
theorem dX1_tradesOf_74 : decode cX1_tradesOf 74 = .ok (.iconst 0, 1) := dk_3 (dk_at dksX1_tradesOf_3 5 rfl rfl)
theorem dX1_tradesOf_75 : decode cX1_tradesOf 75 = .ok (.istore 6, 2) := dk_54 6 (dk_at dksX1_tradesOf_3 6 rfl rfl)
theorem dX1_tradesOf_77 : decode cX1_tradesOf 77 = .ok (.iload_n 2, 1) := dk_28 (dk_at dksX1_tradesOf_3 8 rfl rfl)
theorem dX1_tradesOf_78 : decode cX1_tradesOf 78 = .ok (.aload 5, 2) := dk_25 5 (dk_at dksX1_tradesOf_3 9 rfl rfl)
theorem dX1_tradesOf_80 : decode cX1_tradesOf 80 = .ok (.getfield 232, 3) := dk_180 0 232 (dk_at dksX1_tradesOf_3 11 rfl rfl)
theorem dX1_tradesOf_83 : decode cX1_tradesOf 83 = .ok (.ifCond .eq 9, 3) := dk_153 0 9 (dk_at dksX1_tradesOf_3 14 rfl rfl)
theorem dX1_tradesOf_86 : decode cX1_tradesOf 86 = .ok (.iload 6, 2) := dk_21 6 (dk_at dksX1_tradesOf_3 17 rfl rfl)
theorem dX1_tradesOf_88 : decode cX1_tradesOf 88 = .ok (.ineg, 1) := dk_116 (dk_at dksX1_tradesOf_3 19 rfl rfl)
theorem dX1_tradesOf_89 : decode cX1_tradesOf 89 = .ok (.goto 5, 3) := dk_167 0 5 (dk_at dksX1_tradesOf_3 20 rfl rfl)
theorem dX1_tradesOf_92 : decode cX1_tradesOf 92 = .ok (.iload 6, 2) := dk_21 6 (dk_at dksX1_tradesOf_4 0 rfl rfl)
theorem dX1_tradesOf_94 : decode cX1_tradesOf 94 = .ok (.iadd, 1) := dk_96 (dk_at dksX1_tradesOf_4 2 rfl rfl)
theorem dX1_tradesOf_95 : decode cX1_tradesOf 95 = .ok (.istore_n 2, 1) := dk_61 (dk_at dksX1_tradesOf_4 3 rfl rfl)
theorem dX1_tradesOf_96 : decode cX1_tradesOf 96 = .ok (.goto (-75), 3) := dk_167 255 181 (dk_at dksX1_tradesOf_4 4 rfl rfl)
theorem dX1_tradesOf_99 : decode cX1_tradesOf 99 = .ok (.aload_n 0, 1) := dk_42 (dk_at dksX1_tradesOf_4 7 rfl rfl)
theorem dX1_tradesOf_100 : decode cX1_tradesOf 100 = .ok (.getfield 85, 3) := dk_180 0 85 (dk_at dksX1_tradesOf_4 8 rfl rfl)
theorem dX1_tradesOf_103 : decode cX1_tradesOf 103 = .ok (.invokeinterface 218 1, 5) := by decide +kernel
theorem dX1_tradesOf_108 : decode cX1_tradesOf 108 = .ok (.astore 4, 2) := dk_58 4 (dk_at dksX1_tradesOf_4 16 rfl rfl)
theorem dX1_tradesOf_110 : decode cX1_tradesOf 110 = .ok (.aload 4, 2) := dk_25 4 (dk_at dksX1_tradesOf_4 18 rfl rfl)
theorem dX1_tradesOf_112 : decode cX1_tradesOf 112 = .ok (.invokeinterface 222 1, 5) := by decide +kernel
theorem dX1_tradesOf_117 : decode cX1_tradesOf 117 = .ok (.ifCond .eq 101, 3) := dk_153 0 101 (dk_at dksX1_tradesOf_5 5 rfl rfl)
theorem dX1_tradesOf_120 : decode cX1_tradesOf 120 = .ok (.aload 4, 2) := dk_25 4 (dk_at dksX1_tradesOf_5 8 rfl rfl)
theorem dX1_tradesOf_122 : decode cX1_tradesOf 122 = .ok (.invokeinterface 228 1, 5) := by decide +kernel
theorem dX1_tradesOf_127 : decode cX1_tradesOf 127 = .ok (.checkcast 88, 3) := dk_192 0 88 (dk_at dksX1_tradesOf_5 15 rfl rfl)
theorem dX1_tradesOf_130 : decode cX1_tradesOf 130 = .ok (.astore 5, 2) := dk_58 5 (dk_at dksX1_tradesOf_5 18 rfl rfl)
theorem dX1_tradesOf_132 : decode cX1_tradesOf 132 = .ok (.iconst 0, 1) := dk_3 (dk_at dksX1_tradesOf_5 20 rfl rfl)
theorem dX1_tradesOf_133 : decode cX1_tradesOf 133 = .ok (.istore 6, 2) := dk_54 6 (dk_at dksX1_tradesOf_5 21 rfl rfl)
theorem dX1_tradesOf_135 : decode cX1_tradesOf 135 = .ok (.iload 6, 2) := dk_21 6 (dk_at dksX1_tradesOf_6 0 rfl rfl)
theorem dX1_tradesOf_137 : decode cX1_tradesOf 137 = .ok (.iconst 4, 1) := dk_7 (dk_at dksX1_tradesOf_6 2 rfl rfl)
theorem dX1_tradesOf_138 : decode cX1_tradesOf 138 = .ok (.if_icmp .ge 77, 3) := dk_162 0 77 (dk_at dksX1_tradesOf_6 3 rfl rfl)
theorem dX1_tradesOf_141 : decode cX1_tradesOf 141 = .ok (.aload 5, 2) := dk_25 5 (dk_at dksX1_tradesOf_6 6 rfl rfl)
theorem dX1_tradesOf_143 : decode cX1_tradesOf 143 = .ok (.getfield 399, 3) := dk_180 1 143 (dk_at dksX1_tradesOf_6 8 rfl rfl)
theorem dX1_tradesOf_146 : decode cX1_tradesOf 146 = .ok (.iload_n 1, 1) := dk_27 (dk_at dksX1_tradesOf_6 11 rfl rfl)
theorem dX1_tradesOf_147 : decode cX1_tradesOf 147 = .ok (.if_icmp .ne 40, 3) := dk_160 0 40 (dk_at dksX1_tradesOf_6 12 rfl rfl)
theorem dX1_tradesOf_150 : decode cX1_tradesOf 150 = .ok (.aload 5, 2) := dk_25 5 (dk_at dksX1_tradesOf_6 15 rfl rfl)
theorem dX1_tradesOf_152 : decode cX1_tradesOf 152 = .ok (.getfield 210, 3) := dk_180 0 210 (dk_at dksX1_tradesOf_6 17 rfl rfl)
theorem dX1_tradesOf_155 : decode cX1_tradesOf 155 = .ok (.ifCond .eq 32, 3) := dk_153 0 32 (dk_at dksX1_tradesOf_6 20 rfl rfl)
theorem dX1_tradesOf_158 : decode cX1_tradesOf 158 = .ok (.aload 5, 2) := dk_25 5 (dk_at dksX1_tradesOf_7 0 rfl rfl)
theorem dX1_tradesOf_160 : decode cX1_tradesOf 160 = .ok (.iload 6, 2) := dk_21 6 (dk_at dksX1_tradesOf_7 2 rfl rfl)
theorem dX1_tradesOf_162 : decode cX1_tradesOf 162 = .ok (.invokevirtual 298, 3) := dk_182 1 42 (dk_at dksX1_tradesOf_7 4 rfl rfl)
theorem dX1_tradesOf_165 : decode cX1_tradesOf 165 = .ok (.ifCond .eq 22, 3) := dk_153 0 22 (dk_at dksX1_tradesOf_7 7 rfl rfl)
theorem dX1_tradesOf_168 : decode cX1_tradesOf 168 = .ok (.aload 5, 2) := dk_25 5 (dk_at dksX1_tradesOf_7 10 rfl rfl)
theorem dX1_tradesOf_170 : decode cX1_tradesOf 170 = .ok (.getfield 301, 3) := dk_180 1 45 (dk_at dksX1_tradesOf_7 12 rfl rfl)
theorem dX1_tradesOf_173 : decode cX1_tradesOf 173 = .ok (.aload_n 3, 1) := dk_45 (dk_at dksX1_tradesOf_7 15 rfl rfl)
theorem dX1_tradesOf_174 : decode cX1_tradesOf 174 = .ok (.iload 6, 2) := dk_21 6 (dk_at dksX1_tradesOf_7 16 rfl rfl)
theorem dX1_tradesOf_176 : decode cX1_tradesOf 176 = .ok (.aaload, 1) := dk_50 (dk_at dksX1_tradesOf_7 18 rfl rfl)
theorem dX1_tradesOf_177 : decode cX1_tradesOf 177 = .ok (.aload 5, 2) := dk_25 5 (dk_at dksX1_tradesOf_7 19 rfl rfl)
theorem dX1_tradesOf_179 : decode cX1_tradesOf 179 = .ok (.getfield 295, 3) := dk_180 1 39 (dk_at dksX1_tradesOf_7 21 rfl rfl)
theorem dX1_tradesOf_182 : decode cX1_tradesOf 182 = .ok (.iaload, 1) := dk_46 (dk_at dksX1_tradesOf_8 0 rfl rfl)
theorem dX1_tradesOf_183 : decode cX1_tradesOf 183 = .ok (.imul, 1) := dk_104 (dk_at dksX1_tradesOf_8 1 rfl rfl)
theorem dX1_tradesOf_184 : decode cX1_tradesOf 184 = .ok (.goto 4, 3) := dk_167 0 4 (dk_at dksX1_tradesOf_8 2 rfl rfl)
theorem dX1_tradesOf_187 : decode cX1_tradesOf 187 = .ok (.iconst 0, 1) := dk_3 (dk_at dksX1_tradesOf_8 5 rfl rfl)
theorem dX1_tradesOf_188 : decode cX1_tradesOf 188 = .ok (.istore 7, 2) := dk_54 7 (dk_at dksX1_tradesOf_8 6 rfl rfl)
theorem dX1_tradesOf_190 : decode cX1_tradesOf 190 = .ok (.iload_n 2, 1) := dk_28 (dk_at dksX1_tradesOf_8 8 rfl rfl)
theorem dX1_tradesOf_191 : decode cX1_tradesOf 191 = .ok (.aload 5, 2) := dk_25 5 (dk_at dksX1_tradesOf_8 9 rfl rfl)
theorem dX1_tradesOf_193 : decode cX1_tradesOf 193 = .ok (.getfield 300, 3) := dk_180 1 44 (dk_at dksX1_tradesOf_8 11 rfl rfl)
theorem dX1_tradesOf_196 : decode cX1_tradesOf 196 = .ok (.ifCond .eq 9, 3) := dk_153 0 9 (dk_at dksX1_tradesOf_8 14 rfl rfl)
theorem dX1_tradesOf_199 : decode cX1_tradesOf 199 = .ok (.iload 7, 2) := dk_21 7 (dk_at dksX1_tradesOf_8 17 rfl rfl)
theorem dX1_tradesOf_201 : decode cX1_tradesOf 201 = .ok (.ineg, 1) := dk_116 (dk_at dksX1_tradesOf_8 19 rfl rfl)
theorem dX1_tradesOf_202 : decode cX1_tradesOf 202 = .ok (.goto 5, 3) := dk_167 0 5 (dk_at dksX1_tradesOf_8 20 rfl rfl)
theorem dX1_tradesOf_205 : decode cX1_tradesOf 205 = .ok (.iload 7, 2) := dk_21 7 (dk_at dksX1_tradesOf_9 0 rfl rfl)
theorem dX1_tradesOf_207 : decode cX1_tradesOf 207 = .ok (.iadd, 1) := dk_96 (dk_at dksX1_tradesOf_9 2 rfl rfl)
theorem dX1_tradesOf_208 : decode cX1_tradesOf 208 = .ok (.istore_n 2, 1) := dk_61 (dk_at dksX1_tradesOf_9 3 rfl rfl)
theorem dX1_tradesOf_209 : decode cX1_tradesOf 209 = .ok (.iinc 6 1, 3) := dk_132 6 1 (dk_at dksX1_tradesOf_9 4 rfl rfl)
theorem dX1_tradesOf_212 : decode cX1_tradesOf 212 = .ok (.goto (-77), 3) := dk_167 255 179 (dk_at dksX1_tradesOf_9 7 rfl rfl)
theorem dX1_tradesOf_215 : decode cX1_tradesOf 215 = .ok (.goto (-105), 3) := dk_167 255 151 (dk_at dksX1_tradesOf_9 10 rfl rfl)
theorem dX1_tradesOf_218 : decode cX1_tradesOf 218 = .ok (.aload_n 0, 1) := dk_42 (dk_at dksX1_tradesOf_9 13 rfl rfl)
theorem dX1_tradesOf_219 : decode cX1_tradesOf 219 = .ok (.getfield 102, 3) := dk_180 0 102 (dk_at dksX1_tradesOf_9 14 rfl rfl)
theorem dX1_tradesOf_222 : decode cX1_tradesOf 222 = .ok (.invokeinterface 218 1, 5) := by decide +kernel
theorem dX1_tradesOf_227 : decode cX1_tradesOf 227 = .ok (.astore 4, 2) := dk_58 4 (dk_at dksX1_tradesOf_9 22 rfl rfl)
theorem dX1_tradesOf_229 : decode cX1_tradesOf 229 = .ok (.aload 4, 2) := dk_25 4 (dk_at dksX1_tradesOf_10 0 rfl rfl)
theorem dX1_tradesOf_231 : decode cX1_tradesOf 231 = .ok (.invokeinterface 222 1, 5) := by decide +kernel
theorem dX1_tradesOf_236 : decode cX1_tradesOf 236 = .ok (.ifCond .eq 97, 3) := dk_153 0 97 (dk_at dksX1_tradesOf_10 7 rfl rfl)
theorem dX1_tradesOf_239 : decode cX1_tradesOf 239 = .ok (.aload 4, 2) := dk_25 4 (dk_at dksX1_tradesOf_10 10 rfl rfl)
theorem dX1_tradesOf_241 : decode cX1_tradesOf 241 = .ok (.invokeinterface 228 1, 5) := by decide +kernel
theorem dX1_tradesOf_246 : decode cX1_tradesOf 246 = .ok (.checkcast 105, 3) := dk_192 0 105 (dk_at dksX1_tradesOf_10 17 rfl rfl)
theorem dX1_tradesOf_249 : decode cX1_tradesOf 249 = .ok (.astore 5, 2) := dk_58 5 (dk_at dksX1_tradesOf_10 20 rfl rfl)
theorem dX1_tradesOf_251 : decode cX1_tradesOf 251 = .ok (.iconst 0, 1) := dk_3 (dk_at dksX1_tradesOf_10 22 rfl rfl)
theorem dX1_tradesOf_252 : decode cX1_tradesOf 252 = .ok (.istore 6, 2) := dk_54 6 (dk_at dksX1_tradesOf_11 0 rfl rfl)
theorem dX1_tradesOf_254 : decode cX1_tradesOf 254 = .ok (.iload 6, 2) := dk_21 6 (dk_at dksX1_tradesOf_11 2 rfl rfl)
theorem dX1_tradesOf_256 : decode cX1_tradesOf 256 = .ok (.iconst 4, 1) := dk_7 (dk_at dksX1_tradesOf_11 4 rfl rfl)
theorem dX1_tradesOf_257 : decode cX1_tradesOf 257 = .ok (.if_icmp .ge 52, 3) := dk_162 0 52 (dk_at dksX1_tradesOf_11 5 rfl rfl)
theorem dX1_tradesOf_260 : decode cX1_tradesOf 260 = .ok (.aload 5, 2) := dk_25 5 (dk_at dksX1_tradesOf_11 8 rfl rfl)
theorem dX1_tradesOf_262 : decode cX1_tradesOf 262 = .ok (.getfield 400, 3) := dk_180 1 144 (dk_at dksX1_tradesOf_11 10 rfl rfl)
theorem dX1_tradesOf_265 : decode cX1_tradesOf 265 = .ok (.iload_n 1, 1) := dk_27 (dk_at dksX1_tradesOf_11 13 rfl rfl)
theorem dX1_tradesOf_266 : decode cX1_tradesOf 266 = .ok (.if_icmp .ne 43, 3) := dk_160 0 43 (dk_at dksX1_tradesOf_11 14 rfl rfl)
theorem dX1_tradesOf_269 : decode cX1_tradesOf 269 = .ok (.iload_n 2, 1) := dk_28 (dk_at dksX1_tradesOf_11 17 rfl rfl)
theorem dX1_tradesOf_270 : decode cX1_tradesOf 270 = .ok (.aload 5, 2) := dk_25 5 (dk_at dksX1_tradesOf_11 18 rfl rfl)
theorem dX1_tradesOf_272 : decode cX1_tradesOf 272 = .ok (.getfield 240, 3) := dk_180 0 240 (dk_at dksX1_tradesOf_11 20 rfl rfl)
theorem dX1_tradesOf_275 : decode cX1_tradesOf 275 = .ok (.iconst 0, 1) := dk_3 (dk_at dksX1_tradesOf_11 23 rfl rfl)
theorem dX1_tradesOf_276 : decode cX1_tradesOf 276 = .ok (.aload_n 3, 1) := dk_45 (dk_at dksX1_tradesOf_12 0 rfl rfl)
theorem dX1_tradesOf_277 : decode cX1_tradesOf 277 = .ok (.iload 6, 2) := dk_21 6 (dk_at dksX1_tradesOf_12 1 rfl rfl)
theorem dX1_tradesOf_279 : decode cX1_tradesOf 279 = .ok (.aaload, 1) := dk_50 (dk_at dksX1_tradesOf_12 3 rfl rfl)
theorem dX1_tradesOf_280 : decode cX1_tradesOf 280 = .ok (.aload 5, 2) := dk_25 5 (dk_at dksX1_tradesOf_12 4 rfl rfl)
theorem dX1_tradesOf_282 : decode cX1_tradesOf 282 = .ok (.getfield 349, 3) := dk_180 1 93 (dk_at dksX1_tradesOf_12 6 rfl rfl)
theorem dX1_tradesOf_285 : decode cX1_tradesOf 285 = .ok (.iaload, 1) := dk_46 (dk_at dksX1_tradesOf_12 9 rfl rfl)
theorem dX1_tradesOf_286 : decode cX1_tradesOf 286 = .ok (.aload_n 3, 1) := dk_45 (dk_at dksX1_tradesOf_12 10 rfl rfl)
theorem dX1_tradesOf_287 : decode cX1_tradesOf 287 = .ok (.iload 6, 2) := dk_21 6 (dk_at dksX1_tradesOf_12 11 rfl rfl)
theorem dX1_tradesOf_289 : decode cX1_tradesOf 289 = .ok (.aaload, 1) := dk_50 (dk_at dksX1_tradesOf_12 13 rfl rfl)
theorem dX1_tradesOf_290 : decode cX1_tradesOf 290 = .ok (.aload 5, 2) := dk_25 5 (dk_at dksX1_tradesOf_12 14 rfl rfl)
theorem dX1_tradesOf_292 : decode cX1_tradesOf 292 = .ok (.getfield 346, 3) := dk_180 1 90 (dk_at dksX1_tradesOf_12 16 rfl rfl)
theorem dX1_tradesOf_295 : decode cX1_tradesOf 295 = .ok (.iaload, 1) := dk_46 (dk_at dksX1_tradesOf_12 19 rfl rfl)
theorem dX1_tradesOf_296 : decode cX1_tradesOf 296 = .ok (.isub, 1) := dk_100 (dk_at dksX1_tradesOf_12 20 rfl rfl)
theorem dX1_tradesOf_297 : decode cX1_tradesOf 297 = .ok (.invokestatic 312, 3) := dk_184 1 56 (dk_at dksX1_tradesOf_12 21 rfl rfl)
theorem dX1_tradesOf_300 : decode cX1_tradesOf 300 = .ok (.imul, 1) := dk_104 (dk_at dksX1_tradesOf_13 0 rfl rfl)
theorem dX1_tradesOf_301 : decode cX1_tradesOf 301 = .ok (.iadd, 1) := dk_96 (dk_at dksX1_tradesOf_13 1 rfl rfl)
theorem dX1_tradesOf_302 : decode cX1_tradesOf 302 = .ok (.istore_n 2, 1) := dk_61 (dk_at dksX1_tradesOf_13 2 rfl rfl)
theorem dX1_tradesOf_303 : decode cX1_tradesOf 303 = .ok (.iinc 6 1, 3) := dk_132 6 1 (dk_at dksX1_tradesOf_13 3 rfl rfl)
theorem dX1_tradesOf_306 : decode cX1_tradesOf 306 = .ok (.goto (-52), 3) := dk_167 255 204 (dk_at dksX1_tradesOf_13 6 rfl rfl)
theorem dX1_tradesOf_309 : decode cX1_tradesOf 309 = .ok (.iload_n 2, 1) := dk_28 (dk_at dksX1_tradesOf_13 9 rfl rfl)
theorem dX1_tradesOf_310 : decode cX1_tradesOf 310 = .ok (.aload 5, 2) := dk_25 5 (dk_at dksX1_tradesOf_13 10 rfl rfl)
theorem dX1_tradesOf_312 : decode cX1_tradesOf 312 = .ok (.getfield 400, 3) := dk_180 1 144 (dk_at dksX1_tradesOf_13 12 rfl rfl)
theorem dX1_tradesOf_315 : decode cX1_tradesOf 315 = .ok (.iload_n 1, 1) := dk_27 (dk_at dksX1_tradesOf_13 15 rfl rfl)
theorem dX1_tradesOf_316 : decode cX1_tradesOf 316 = .ok (.if_icmp .ne 11, 3) := dk_160 0 11 (dk_at dksX1_tradesOf_13 16 rfl rfl)
theorem dX1_tradesOf_319 : decode cX1_tradesOf 319 = .ok (.aload 5, 2) := dk_25 5 (dk_at dksX1_tradesOf_13 19 rfl rfl)
theorem dX1_tradesOf_321 : decode cX1_tradesOf 321 = .ok (.getfield 355, 3) := dk_180 1 99 (dk_at dksX1_tradesOf_13 21 rfl rfl)
theorem dX1_tradesOf_324 : decode cX1_tradesOf 324 = .ok (.goto 4, 3) := dk_167 0 4 (dk_at dksX1_tradesOf_14 0 rfl rfl)
theorem dX1_tradesOf_327 : decode cX1_tradesOf 327 = .ok (.iconst 0, 1) := dk_3 (dk_at dksX1_tradesOf_14 3 rfl rfl)
theorem dX1_tradesOf_328 : decode cX1_tradesOf 328 = .ok (.isub, 1) := dk_100 (dk_at dksX1_tradesOf_14 4 rfl rfl)
theorem dX1_tradesOf_329 : decode cX1_tradesOf 329 = .ok (.istore_n 2, 1) := dk_61 (dk_at dksX1_tradesOf_14 5 rfl rfl)
theorem dX1_tradesOf_330 : decode cX1_tradesOf 330 = .ok (.goto (-101), 3) := dk_167 255 155 (dk_at dksX1_tradesOf_14 6 rfl rfl)
theorem dX1_tradesOf_333 : decode cX1_tradesOf 333 = .ok (.aload_n 0, 1) := dk_42 (dk_at dksX1_tradesOf_14 9 rfl rfl)
theorem dX1_tradesOf_334 : decode cX1_tradesOf 334 = .ok (.getfield 380, 3) := dk_180 1 124 (dk_at dksX1_tradesOf_14 10 rfl rfl)
theorem dX1_tradesOf_337 : decode cX1_tradesOf 337 = .ok (.invokeinterface 218 1, 5) := by decide +kernel
theorem dX1_tradesOf_342 : decode cX1_tradesOf 342 = .ok (.astore 4, 2) := dk_58 4 (dk_at dksX1_tradesOf_14 18 rfl rfl)
theorem dX1_tradesOf_344 : decode cX1_tradesOf 344 = .ok (.aload 4, 2) := dk_25 4 (dk_at dksX1_tradesOf_14 20 rfl rfl)
theorem dX1_tradesOf_346 : decode cX1_tradesOf 346 = .ok (.invokeinterface 222 1, 5) := by decide +kernel
theorem dX1_tradesOf_351 : decode cX1_tradesOf 351 = .ok (.ifCond .eq 78, 3) := dk_153 0 78 (dk_at dksX1_tradesOf_15 5 rfl rfl)
theorem dX1_tradesOf_354 : decode cX1_tradesOf 354 = .ok (.aload 4, 2) := dk_25 4 (dk_at dksX1_tradesOf_15 8 rfl rfl)
theorem dX1_tradesOf_356 : decode cX1_tradesOf 356 = .ok (.invokeinterface 228 1, 5) := by decide +kernel
theorem dX1_tradesOf_361 : decode cX1_tradesOf 361 = .ok (.checkcast 383, 3) := dk_192 1 127 (dk_at dksX1_tradesOf_15 15 rfl rfl)
theorem dX1_tradesOf_364 : decode cX1_tradesOf 364 = .ok (.astore 5, 2) := dk_58 5 (dk_at dksX1_tradesOf_15 18 rfl rfl)
theorem dX1_tradesOf_366 : decode cX1_tradesOf 366 = .ok (.iload_n 2, 1) := dk_28 (dk_at dksX1_tradesOf_15 20 rfl rfl)
theorem dX1_tradesOf_367 : decode cX1_tradesOf 367 = .ok (.aload 5, 2) := dk_25 5 (dk_at dksX1_tradesOf_15 21 rfl rfl)
theorem dX1_tradesOf_369 : decode cX1_tradesOf 369 = .ok (.getfield 401, 3) := dk_180 1 145 (dk_at dksX1_tradesOf_16 0 rfl rfl)
theorem dX1_tradesOf_372 : decode cX1_tradesOf 372 = .ok (.getfield 360, 3) := dk_180 1 104 (dk_at dksX1_tradesOf_16 3 rfl rfl)
theorem dX1_tradesOf_375 : decode cX1_tradesOf 375 = .ok (.iload_n 1, 1) := dk_27 (dk_at dksX1_tradesOf_16 6 rfl rfl)
theorem dX1_tradesOf_376 : decode cX1_tradesOf 376 = .ok (.if_icmp .ne 17, 3) := dk_160 0 17 (dk_at dksX1_tradesOf_16 7 rfl rfl)
theorem dX1_tradesOf_379 : decode cX1_tradesOf 379 = .ok (.aload 5, 2) := dk_25 5 (dk_at dksX1_tradesOf_16 10 rfl rfl)
theorem dX1_tradesOf_381 : decode cX1_tradesOf 381 = .ok (.getfield 405, 3) := dk_180 1 149 (dk_at dksX1_tradesOf_16 12 rfl rfl)
theorem dX1_tradesOf_384 : decode cX1_tradesOf 384 = .ok (.aload 5, 2) := dk_25 5 (dk_at dksX1_tradesOf_16 15 rfl rfl)
theorem dX1_tradesOf_386 : decode cX1_tradesOf 386 = .ok (.getfield 406, 3) := dk_180 1 150 (dk_at dksX1_tradesOf_16 17 rfl rfl)
theorem dX1_tradesOf_389 : decode cX1_tradesOf 389 = .ok (.imul, 1) := dk_104 (dk_at dksX1_tradesOf_16 20 rfl rfl)
theorem dX1_tradesOf_390 : decode cX1_tradesOf 390 = .ok (.goto 4, 3) := dk_167 0 4 (dk_at dksX1_tradesOf_16 21 rfl rfl)
theorem dX1_tradesOf_393 : decode cX1_tradesOf 393 = .ok (.iconst 0, 1) := dk_3 (dk_at dksX1_tradesOf_17 0 rfl rfl)
theorem dX1_tradesOf_394 : decode cX1_tradesOf 394 = .ok (.isub, 1) := dk_100 (dk_at dksX1_tradesOf_17 1 rfl rfl)
theorem dX1_tradesOf_395 : decode cX1_tradesOf 395 = .ok (.istore_n 2, 1) := dk_61 (dk_at dksX1_tradesOf_17 2 rfl rfl)
theorem dX1_tradesOf_396 : decode cX1_tradesOf 396 = .ok (.iload_n 2, 1) := dk_28 (dk_at dksX1_tradesOf_17 3 rfl rfl)
theorem dX1_tradesOf_397 : decode cX1_tradesOf 397 = .ok (.aload 5, 2) := dk_25 5 (dk_at dksX1_tradesOf_17 4 rfl rfl)
theorem dX1_tradesOf_399 : decode cX1_tradesOf 399 = .ok (.getfield 407, 3) := dk_180 1 151 (dk_at dksX1_tradesOf_17 6 rfl rfl)
theorem dX1_tradesOf_402 : decode cX1_tradesOf 402 = .ok (.getfield 360, 3) := dk_180 1 104 (dk_at dksX1_tradesOf_17 9 rfl rfl)
theorem dX1_tradesOf_405 : decode cX1_tradesOf 405 = .ok (.iload_n 1, 1) := dk_27 (dk_at dksX1_tradesOf_17 12 rfl rfl)
theorem dX1_tradesOf_406 : decode cX1_tradesOf 406 = .ok (.if_icmp .ne 17, 3) := dk_160 0 17 (dk_at dksX1_tradesOf_17 13 rfl rfl)
theorem dX1_tradesOf_409 : decode cX1_tradesOf 409 = .ok (.aload 5, 2) := dk_25 5 (dk_at dksX1_tradesOf_17 16 rfl rfl)
theorem dX1_tradesOf_411 : decode cX1_tradesOf 411 = .ok (.getfield 405, 3) := dk_180 1 149 (dk_at dksX1_tradesOf_17 18 rfl rfl)
theorem dX1_tradesOf_414 : decode cX1_tradesOf 414 = .ok (.aload 5, 2) := dk_25 5 (dk_at dksX1_tradesOf_17 21 rfl rfl)
theorem dX1_tradesOf_416 : decode cX1_tradesOf 416 = .ok (.getfield 406, 3) := dk_180 1 150 (dk_at dksX1_tradesOf_18 0 rfl rfl)
theorem dX1_tradesOf_419 : decode cX1_tradesOf 419 = .ok (.imul, 1) := dk_104 (dk_at dksX1_tradesOf_18 3 rfl rfl)
theorem dX1_tradesOf_420 : decode cX1_tradesOf 420 = .ok (.goto 4, 3) := dk_167 0 4 (dk_at dksX1_tradesOf_18 4 rfl rfl)
theorem dX1_tradesOf_423 : decode cX1_tradesOf 423 = .ok (.iconst 0, 1) := dk_3 (dk_at dksX1_tradesOf_18 7 rfl rfl)
theorem dX1_tradesOf_424 : decode cX1_tradesOf 424 = .ok (.iadd, 1) := dk_96 (dk_at dksX1_tradesOf_18 8 rfl rfl)
theorem dX1_tradesOf_425 : decode cX1_tradesOf 425 = .ok (.istore_n 2, 1) := dk_61 (dk_at dksX1_tradesOf_18 9 rfl rfl)
theorem dX1_tradesOf_426 : decode cX1_tradesOf 426 = .ok (.goto (-82), 3) := dk_167 255 174 (dk_at dksX1_tradesOf_18 10 rfl rfl)
theorem dX1_tradesOf_429 : decode cX1_tradesOf 429 = .ok (.iload_n 2, 1) := dk_28 (dk_at dksX1_tradesOf_18 13 rfl rfl)
theorem dX1_tradesOf_430 : decode cX1_tradesOf 430 = .ok (.ireturn, 1) := dk_172 (dk_at dksX1_tradesOf_18 14 rfl rfl)
abbrev cX1_gapPriceOf : ByteArray := prog_1_method_59_code
def yX1_gapPriceOf : MethodName := ⟨RX1, "gapPriceOf", "(LGridMarket$Day;I)I"⟩
def dkwX1_gapPriceOf_9 : List UInt8 := [167, 0, 5, 21, 5, 172]
abbrev dktX1_gapPriceOf_9 : List UInt8 := dkwX1_gapPriceOf_9 ++ []
def dkwX1_gapPriceOf_8 : List UInt8 := [167, 0, 10, 21, 5, 21, 8, 184, 1, 96, 54, 5, 132, 7, 1, 167, 255, 210, 28, 154, 0, 7, 2]
abbrev dktX1_gapPriceOf_8 : List UInt8 := dkwX1_gapPriceOf_8 ++ dktX1_gapPriceOf_9
def dkwX1_gapPriceOf_7 : List UInt8 := [180, 0, 57, 180, 0, 196, 27, 50, 21, 7, 46, 54, 8, 28, 156, 0, 13, 21, 5, 21, 8, 184, 1, 56]
abbrev dktX1_gapPriceOf_7 : List UInt8 := dkwX1_gapPriceOf_7 ++ dktX1_gapPriceOf_8
def dkwX1_gapPriceOf_6 : List UInt8 := [28, 156, 0, 9, 17, 1, 44, 167, 0, 4, 3, 54, 5, 3, 54, 7, 21, 7, 6, 162, 0, 46, 42]
abbrev dktX1_gapPriceOf_6 : List UInt8 := dkwX1_gapPriceOf_6 ++ dktX1_gapPriceOf_7
def dkwX1_gapPriceOf_5 : List UInt8 := [28, 184, 1, 11, 160, 0, 7, 4, 167, 0, 4, 3, 54, 6, 21, 6, 153, 0, 8, 21, 5, 167, 0, 14]
abbrev dktX1_gapPriceOf_5 : List UInt8 := dkwX1_gapPriceOf_5 ++ dktX1_gapPriceOf_6
def dkwX1_gapPriceOf_4 : List UInt8 := [185, 0, 91, 2, 0, 192, 0, 155, 180, 1, 136, 184, 1, 96, 54, 5, 132, 6, 1, 167, 255, 177, 21, 4]
abbrev dktX1_gapPriceOf_4 : List UInt8 := dkwX1_gapPriceOf_4 ++ dktX1_gapPriceOf_5
def dkwX1_gapPriceOf_3 : List UInt8 := [192, 0, 155, 180, 1, 136, 184, 1, 56, 167, 0, 25, 21, 5, 42, 180, 0, 152, 21, 6]
abbrev dktX1_gapPriceOf_3 : List UInt8 := dkwX1_gapPriceOf_3 ++ dktX1_gapPriceOf_4
def dkwX1_gapPriceOf_2 : List UInt8 := [45, 21, 6, 46, 158, 0, 56, 28, 156, 0, 28, 21, 5, 42, 180, 0, 152, 21, 6, 185, 0, 91, 2, 0]
abbrev dktX1_gapPriceOf_2 : List UInt8 := dkwX1_gapPriceOf_2 ++ dktX1_gapPriceOf_3
def dkwX1_gapPriceOf_1 : List UInt8 := [17, 1, 44, 54, 5, 3, 54, 6, 21, 6, 45, 190, 162, 0, 78, 21, 4, 45, 21, 6, 46, 96, 54, 4]
abbrev dktX1_gapPriceOf_1 : List UInt8 := dkwX1_gapPriceOf_1 ++ dktX1_gapPriceOf_2
def dkwX1_gapPriceOf_0 : List UInt8 := [42, 27, 182, 0, 246, 61, 42, 27, 184, 1, 138, 78, 3, 54, 4, 28, 156, 0, 7, 3, 167, 0, 6]
abbrev dktX1_gapPriceOf_0 : List UInt8 := dkwX1_gapPriceOf_0 ++ dktX1_gapPriceOf_1
theorem dksX1_gapPriceOf_0 : cX1_gapPriceOf.data.toList.drop 0 = dktX1_gapPriceOf_0 := by decide +kernel
theorem dksX1_gapPriceOf_1 : cX1_gapPriceOf.data.toList.drop 23 = dktX1_gapPriceOf_1 := dk_seg dksX1_gapPriceOf_0 23 rfl rfl
theorem dksX1_gapPriceOf_2 : cX1_gapPriceOf.data.toList.drop 47 = dktX1_gapPriceOf_2 := dk_seg dksX1_gapPriceOf_1 24 rfl rfl
theorem dksX1_gapPriceOf_3 : cX1_gapPriceOf.data.toList.drop 71 = dktX1_gapPriceOf_3 := dk_seg dksX1_gapPriceOf_2 24 rfl rfl
theorem dksX1_gapPriceOf_4 : cX1_gapPriceOf.data.toList.drop 91 = dktX1_gapPriceOf_4 := dk_seg dksX1_gapPriceOf_3 20 rfl rfl
theorem dksX1_gapPriceOf_5 : cX1_gapPriceOf.data.toList.drop 115 = dktX1_gapPriceOf_5 := dk_seg dksX1_gapPriceOf_4 24 rfl rfl
theorem dksX1_gapPriceOf_6 : cX1_gapPriceOf.data.toList.drop 139 = dktX1_gapPriceOf_6 := dk_seg dksX1_gapPriceOf_5 24 rfl rfl
theorem dksX1_gapPriceOf_7 : cX1_gapPriceOf.data.toList.drop 162 = dktX1_gapPriceOf_7 := dk_seg dksX1_gapPriceOf_6 23 rfl rfl
theorem dksX1_gapPriceOf_8 : cX1_gapPriceOf.data.toList.drop 186 = dktX1_gapPriceOf_8 := dk_seg dksX1_gapPriceOf_7 24 rfl rfl
theorem dksX1_gapPriceOf_9 : cX1_gapPriceOf.data.toList.drop 209 = dktX1_gapPriceOf_9 := dk_seg dksX1_gapPriceOf_8 23 rfl rfl
theorem dX1_gapPriceOf_0 : decode cX1_gapPriceOf 0 = .ok (.aload_n 0, 1) := dk_42 (dk_at dksX1_gapPriceOf_0 0 rfl rfl)
theorem dX1_gapPriceOf_1 : decode cX1_gapPriceOf 1 = .ok (.iload_n 1, 1) := dk_27 (dk_at dksX1_gapPriceOf_0 1 rfl rfl)
theorem dX1_gapPriceOf_2 : decode cX1_gapPriceOf 2 = .ok (.invokevirtual 246, 3) := dk_182 0 246 (dk_at dksX1_gapPriceOf_0 2 rfl rfl)
theorem dX1_gapPriceOf_5 : decode cX1_gapPriceOf 5 = .ok (.istore_n 2, 1) := dk_61 (dk_at dksX1_gapPriceOf_0 5 rfl rfl)
theorem dX1_gapPriceOf_6 : decode cX1_gapPriceOf 6 = .ok (.aload_n 0, 1) := dk_42 (dk_at dksX1_gapPriceOf_0 6 rfl rfl)
theorem dX1_gapPriceOf_7 : decode cX1_gapPriceOf 7 = .ok (.iload_n 1, 1) := dk_27 (dk_at dksX1_gapPriceOf_0 7 rfl rfl)
theorem dX1_gapPriceOf_8 : decode cX1_gapPriceOf 8 = .ok (.invokestatic 394, 3) := dk_184 1 138 (dk_at dksX1_gapPriceOf_0 8 rfl rfl)
theorem dX1_gapPriceOf_11 : decode cX1_gapPriceOf 11 = .ok (.astore_n 3, 1) := dk_78 (dk_at dksX1_gapPriceOf_0 11 rfl rfl)
theorem dX1_gapPriceOf_12 : decode cX1_gapPriceOf 12 = .ok (.iconst 0, 1) := dk_3 (dk_at dksX1_gapPriceOf_0 12 rfl rfl)
theorem dX1_gapPriceOf_13 : decode cX1_gapPriceOf 13 = .ok (.istore 4, 2) := dk_54 4 (dk_at dksX1_gapPriceOf_0 13 rfl rfl)
theorem dX1_gapPriceOf_15 : decode cX1_gapPriceOf 15 = .ok (.iload_n 2, 1) := dk_28 (dk_at dksX1_gapPriceOf_0 15 rfl rfl)
theorem dX1_gapPriceOf_16 : decode cX1_gapPriceOf 16 = .ok (.ifCond .ge 7, 3) := dk_156 0 7 (dk_at dksX1_gapPriceOf_0 16 rfl rfl)
theorem dX1_gapPriceOf_19 : decode cX1_gapPriceOf 19 = .ok (.iconst 0, 1) := dk_3 (dk_at dksX1_gapPriceOf_0 19 rfl rfl)
theorem dX1_gapPriceOf_20 : decode cX1_gapPriceOf 20 = .ok (.goto 6, 3) := dk_167 0 6 (dk_at dksX1_gapPriceOf_0 20 rfl rfl)
theorem dX1_gapPriceOf_23 : decode cX1_gapPriceOf 23 = .ok (.sipush 300, 3) := dk_17 1 44 (dk_at dksX1_gapPriceOf_1 0 rfl rfl)
theorem dX1_gapPriceOf_26 : decode cX1_gapPriceOf 26 = .ok (.istore 5, 2) := dk_54 5 (dk_at dksX1_gapPriceOf_1 3 rfl rfl)
theorem dX1_gapPriceOf_28 : decode cX1_gapPriceOf 28 = .ok (.iconst 0, 1) := dk_3 (dk_at dksX1_gapPriceOf_1 5 rfl rfl)
theorem dX1_gapPriceOf_29 : decode cX1_gapPriceOf 29 = .ok (.istore 6, 2) := dk_54 6 (dk_at dksX1_gapPriceOf_1 6 rfl rfl)
theorem dX1_gapPriceOf_31 : decode cX1_gapPriceOf 31 = .ok (.iload 6, 2) := dk_21 6 (dk_at dksX1_gapPriceOf_1 8 rfl rfl)
theorem dX1_gapPriceOf_33 : decode cX1_gapPriceOf 33 = .ok (.aload_n 3, 1) := dk_45 (dk_at dksX1_gapPriceOf_1 10 rfl rfl)
theorem dX1_gapPriceOf_34 : decode cX1_gapPriceOf 34 = .ok (.arraylength, 1) := dk_190 (dk_at dksX1_gapPriceOf_1 11 rfl rfl)
theorem dX1_gapPriceOf_35 : decode cX1_gapPriceOf 35 = .ok (.if_icmp .ge 78, 3) := dk_162 0 78 (dk_at dksX1_gapPriceOf_1 12 rfl rfl)
theorem dX1_gapPriceOf_38 : decode cX1_gapPriceOf 38 = .ok (.iload 4, 2) := dk_21 4 (dk_at dksX1_gapPriceOf_1 15 rfl rfl)
theorem dX1_gapPriceOf_40 : decode cX1_gapPriceOf 40 = .ok (.aload_n 3, 1) := dk_45 (dk_at dksX1_gapPriceOf_1 17 rfl rfl)
theorem dX1_gapPriceOf_41 : decode cX1_gapPriceOf 41 = .ok (.iload 6, 2) := dk_21 6 (dk_at dksX1_gapPriceOf_1 18 rfl rfl)
theorem dX1_gapPriceOf_43 : decode cX1_gapPriceOf 43 = .ok (.iaload, 1) := dk_46 (dk_at dksX1_gapPriceOf_1 20 rfl rfl)
theorem dX1_gapPriceOf_44 : decode cX1_gapPriceOf 44 = .ok (.iadd, 1) := dk_96 (dk_at dksX1_gapPriceOf_1 21 rfl rfl)
theorem dX1_gapPriceOf_45 : decode cX1_gapPriceOf 45 = .ok (.istore 4, 2) := dk_54 4 (dk_at dksX1_gapPriceOf_1 22 rfl rfl)
theorem dX1_gapPriceOf_47 : decode cX1_gapPriceOf 47 = .ok (.aload_n 3, 1) := dk_45 (dk_at dksX1_gapPriceOf_2 0 rfl rfl)
theorem dX1_gapPriceOf_48 : decode cX1_gapPriceOf 48 = .ok (.iload 6, 2) := dk_21 6 (dk_at dksX1_gapPriceOf_2 1 rfl rfl)
theorem dX1_gapPriceOf_50 : decode cX1_gapPriceOf 50 = .ok (.iaload, 1) := dk_46 (dk_at dksX1_gapPriceOf_2 3 rfl rfl)
theorem dX1_gapPriceOf_51 : decode cX1_gapPriceOf 51 = .ok (.ifCond .le 56, 3) := dk_158 0 56 (dk_at dksX1_gapPriceOf_2 4 rfl rfl)
theorem dX1_gapPriceOf_54 : decode cX1_gapPriceOf 54 = .ok (.iload_n 2, 1) := dk_28 (dk_at dksX1_gapPriceOf_2 7 rfl rfl)
theorem dX1_gapPriceOf_55 : decode cX1_gapPriceOf 55 = .ok (.ifCond .ge 28, 3) := dk_156 0 28 (dk_at dksX1_gapPriceOf_2 8 rfl rfl)
theorem dX1_gapPriceOf_58 : decode cX1_gapPriceOf 58 = .ok (.iload 5, 2) := dk_21 5 (dk_at dksX1_gapPriceOf_2 11 rfl rfl)
theorem dX1_gapPriceOf_60 : decode cX1_gapPriceOf 60 = .ok (.aload_n 0, 1) := dk_42 (dk_at dksX1_gapPriceOf_2 13 rfl rfl)
theorem dX1_gapPriceOf_61 : decode cX1_gapPriceOf 61 = .ok (.getfield 152, 3) := dk_180 0 152 (dk_at dksX1_gapPriceOf_2 14 rfl rfl)
theorem dX1_gapPriceOf_64 : decode cX1_gapPriceOf 64 = .ok (.iload 6, 2) := dk_21 6 (dk_at dksX1_gapPriceOf_2 17 rfl rfl)
theorem dX1_gapPriceOf_66 : decode cX1_gapPriceOf 66 = .ok (.invokeinterface 91 2, 5) := by decide +kernel
theorem dX1_gapPriceOf_71 : decode cX1_gapPriceOf 71 = .ok (.checkcast 155, 3) := dk_192 0 155 (dk_at dksX1_gapPriceOf_3 0 rfl rfl)
theorem dX1_gapPriceOf_74 : decode cX1_gapPriceOf 74 = .ok (.getfield 392, 3) := dk_180 1 136 (dk_at dksX1_gapPriceOf_3 3 rfl rfl)
theorem dX1_gapPriceOf_77 : decode cX1_gapPriceOf 77 = .ok (.invokestatic 312, 3) := dk_184 1 56 (dk_at dksX1_gapPriceOf_3 6 rfl rfl)
theorem dX1_gapPriceOf_80 : decode cX1_gapPriceOf 80 = .ok (.goto 25, 3) := dk_167 0 25 (dk_at dksX1_gapPriceOf_3 9 rfl rfl)
theorem dX1_gapPriceOf_83 : decode cX1_gapPriceOf 83 = .ok (.iload 5, 2) := dk_21 5 (dk_at dksX1_gapPriceOf_3 12 rfl rfl)
theorem dX1_gapPriceOf_85 : decode cX1_gapPriceOf 85 = .ok (.aload_n 0, 1) := dk_42 (dk_at dksX1_gapPriceOf_3 14 rfl rfl)
theorem dX1_gapPriceOf_86 : decode cX1_gapPriceOf 86 = .ok (.getfield 152, 3) := dk_180 0 152 (dk_at dksX1_gapPriceOf_3 15 rfl rfl)
theorem dX1_gapPriceOf_89 : decode cX1_gapPriceOf 89 = .ok (.iload 6, 2) := dk_21 6 (dk_at dksX1_gapPriceOf_3 18 rfl rfl)
theorem dX1_gapPriceOf_91 : decode cX1_gapPriceOf 91 = .ok (.invokeinterface 91 2, 5) := by decide +kernel
theorem dX1_gapPriceOf_96 : decode cX1_gapPriceOf 96 = .ok (.checkcast 155, 3) := dk_192 0 155 (dk_at dksX1_gapPriceOf_4 5 rfl rfl)
theorem dX1_gapPriceOf_99 : decode cX1_gapPriceOf 99 = .ok (.getfield 392, 3) := dk_180 1 136 (dk_at dksX1_gapPriceOf_4 8 rfl rfl)
theorem dX1_gapPriceOf_102 : decode cX1_gapPriceOf 102 = .ok (.invokestatic 352, 3) := dk_184 1 96 (dk_at dksX1_gapPriceOf_4 11 rfl rfl)
theorem dX1_gapPriceOf_105 : decode cX1_gapPriceOf 105 = .ok (.istore 5, 2) := dk_54 5 (dk_at dksX1_gapPriceOf_4 14 rfl rfl)
theorem dX1_gapPriceOf_107 : decode cX1_gapPriceOf 107 = .ok (.iinc 6 1, 3) := dk_132 6 1 (dk_at dksX1_gapPriceOf_4 16 rfl rfl)
theorem dX1_gapPriceOf_110 : decode cX1_gapPriceOf 110 = .ok (.goto (-79), 3) := dk_167 255 177 (dk_at dksX1_gapPriceOf_4 19 rfl rfl)
theorem dX1_gapPriceOf_113 : decode cX1_gapPriceOf 113 = .ok (.iload 4, 2) := dk_21 4 (dk_at dksX1_gapPriceOf_4 22 rfl rfl)
theorem dX1_gapPriceOf_115 : decode cX1_gapPriceOf 115 = .ok (.iload_n 2, 1) := dk_28 (dk_at dksX1_gapPriceOf_5 0 rfl rfl)
theorem dX1_gapPriceOf_116 : decode cX1_gapPriceOf 116 = .ok (.invokestatic 267, 3) := dk_184 1 11 (dk_at dksX1_gapPriceOf_5 1 rfl rfl)
theorem dX1_gapPriceOf_119 : decode cX1_gapPriceOf 119 = .ok (.if_icmp .ne 7, 3) := dk_160 0 7 (dk_at dksX1_gapPriceOf_5 4 rfl rfl)
theorem dX1_gapPriceOf_122 : decode cX1_gapPriceOf 122 = .ok (.iconst 1, 1) := dk_4 (dk_at dksX1_gapPriceOf_5 7 rfl rfl)
theorem dX1_gapPriceOf_123 : decode cX1_gapPriceOf 123 = .ok (.goto 4, 3) := dk_167 0 4 (dk_at dksX1_gapPriceOf_5 8 rfl rfl)
theorem dX1_gapPriceOf_126 : decode cX1_gapPriceOf 126 = .ok (.iconst 0, 1) := dk_3 (dk_at dksX1_gapPriceOf_5 11 rfl rfl)
theorem dX1_gapPriceOf_127 : decode cX1_gapPriceOf 127 = .ok (.istore 6, 2) := dk_54 6 (dk_at dksX1_gapPriceOf_5 12 rfl rfl)
theorem dX1_gapPriceOf_129 : decode cX1_gapPriceOf 129 = .ok (.iload 6, 2) := dk_21 6 (dk_at dksX1_gapPriceOf_5 14 rfl rfl)
theorem dX1_gapPriceOf_131 : decode cX1_gapPriceOf 131 = .ok (.ifCond .eq 8, 3) := dk_153 0 8 (dk_at dksX1_gapPriceOf_5 16 rfl rfl)
theorem dX1_gapPriceOf_134 : decode cX1_gapPriceOf 134 = .ok (.iload 5, 2) := dk_21 5 (dk_at dksX1_gapPriceOf_5 19 rfl rfl)
theorem dX1_gapPriceOf_136 : decode cX1_gapPriceOf 136 = .ok (.goto 14, 3) := dk_167 0 14 (dk_at dksX1_gapPriceOf_5 21 rfl rfl)
theorem dX1_gapPriceOf_139 : decode cX1_gapPriceOf 139 = .ok (.iload_n 2, 1) := dk_28 (dk_at dksX1_gapPriceOf_6 0 rfl rfl)
theorem dX1_gapPriceOf_140 : decode cX1_gapPriceOf 140 = .ok (.ifCond .ge 9, 3) := dk_156 0 9 (dk_at dksX1_gapPriceOf_6 1 rfl rfl)
theorem dX1_gapPriceOf_143 : decode cX1_gapPriceOf 143 = .ok (.sipush 300, 3) := dk_17 1 44 (dk_at dksX1_gapPriceOf_6 4 rfl rfl)
theorem dX1_gapPriceOf_146 : decode cX1_gapPriceOf 146 = .ok (.goto 4, 3) := dk_167 0 4 (dk_at dksX1_gapPriceOf_6 7 rfl rfl)
theorem dX1_gapPriceOf_149 : decode cX1_gapPriceOf 149 = .ok (.iconst 0, 1) := dk_3 (dk_at dksX1_gapPriceOf_6 10 rfl rfl)
theorem dX1_gapPriceOf_150 : decode cX1_gapPriceOf 150 = .ok (.istore 5, 2) := dk_54 5 (dk_at dksX1_gapPriceOf_6 11 rfl rfl)
theorem dX1_gapPriceOf_152 : decode cX1_gapPriceOf 152 = .ok (.iconst 0, 1) := dk_3 (dk_at dksX1_gapPriceOf_6 13 rfl rfl)
theorem dX1_gapPriceOf_153 : decode cX1_gapPriceOf 153 = .ok (.istore 7, 2) := dk_54 7 (dk_at dksX1_gapPriceOf_6 14 rfl rfl)
theorem dX1_gapPriceOf_155 : decode cX1_gapPriceOf 155 = .ok (.iload 7, 2) := dk_21 7 (dk_at dksX1_gapPriceOf_6 16 rfl rfl)
theorem dX1_gapPriceOf_157 : decode cX1_gapPriceOf 157 = .ok (.iconst 3, 1) := dk_6 (dk_at dksX1_gapPriceOf_6 18 rfl rfl)
theorem dX1_gapPriceOf_158 : decode cX1_gapPriceOf 158 = .ok (.if_icmp .ge 46, 3) := dk_162 0 46 (dk_at dksX1_gapPriceOf_6 19 rfl rfl)
theorem dX1_gapPriceOf_161 : decode cX1_gapPriceOf 161 = .ok (.aload_n 0, 1) := dk_42 (dk_at dksX1_gapPriceOf_6 22 rfl rfl)
theorem dX1_gapPriceOf_162 : decode cX1_gapPriceOf 162 = .ok (.getfield 57, 3) := dk_180 0 57 (dk_at dksX1_gapPriceOf_7 0 rfl rfl)
theorem dX1_gapPriceOf_165 : decode cX1_gapPriceOf 165 = .ok (.getfield 196, 3) := dk_180 0 196 (dk_at dksX1_gapPriceOf_7 3 rfl rfl)
theorem dX1_gapPriceOf_168 : decode cX1_gapPriceOf 168 = .ok (.iload_n 1, 1) := dk_27 (dk_at dksX1_gapPriceOf_7 6 rfl rfl)
theorem dX1_gapPriceOf_169 : decode cX1_gapPriceOf 169 = .ok (.aaload, 1) := dk_50 (dk_at dksX1_gapPriceOf_7 7 rfl rfl)
theorem dX1_gapPriceOf_170 : decode cX1_gapPriceOf 170 = .ok (.iload 7, 2) := dk_21 7 (dk_at dksX1_gapPriceOf_7 8 rfl rfl)
theorem dX1_gapPriceOf_172 : decode cX1_gapPriceOf 172 = .ok (.iaload, 1) := dk_46 (dk_at dksX1_gapPriceOf_7 10 rfl rfl)
theorem dX1_gapPriceOf_173 : decode cX1_gapPriceOf 173 = .ok (.istore 8, 2) := dk_54 8 (dk_at dksX1_gapPriceOf_7 11 rfl rfl)
theorem dX1_gapPriceOf_175 : decode cX1_gapPriceOf 175 = .ok (.iload_n 2, 1) := dk_28 (dk_at dksX1_gapPriceOf_7 13 rfl rfl)
theorem dX1_gapPriceOf_176 : decode cX1_gapPriceOf 176 = .ok (.ifCond .ge 13, 3) := dk_156 0 13 (dk_at dksX1_gapPriceOf_7 14 rfl rfl)
theorem dX1_gapPriceOf_179 : decode cX1_gapPriceOf 179 = .ok (.iload 5, 2) := dk_21 5 (dk_at dksX1_gapPriceOf_7 17 rfl rfl)
theorem dX1_gapPriceOf_181 : decode cX1_gapPriceOf 181 = .ok (.iload 8, 2) := dk_21 8 (dk_at dksX1_gapPriceOf_7 19 rfl rfl)
theorem dX1_gapPriceOf_183 : decode cX1_gapPriceOf 183 = .ok (.invokestatic 312, 3) := dk_184 1 56 (dk_at dksX1_gapPriceOf_7 21 rfl rfl)
theorem dX1_gapPriceOf_186 : decode cX1_gapPriceOf 186 = .ok (.goto 10, 3) := dk_167 0 10 (dk_at dksX1_gapPriceOf_8 0 rfl rfl)
theorem dX1_gapPriceOf_189 : decode cX1_gapPriceOf 189 = .ok (.iload 5, 2) := dk_21 5 (dk_at dksX1_gapPriceOf_8 3 rfl rfl)
theorem dX1_gapPriceOf_191 : decode cX1_gapPriceOf 191 = .ok (.iload 8, 2) := dk_21 8 (dk_at dksX1_gapPriceOf_8 5 rfl rfl)
theorem dX1_gapPriceOf_193 : decode cX1_gapPriceOf 193 = .ok (.invokestatic 352, 3) := dk_184 1 96 (dk_at dksX1_gapPriceOf_8 7 rfl rfl)
theorem dX1_gapPriceOf_196 : decode cX1_gapPriceOf 196 = .ok (.istore 5, 2) := dk_54 5 (dk_at dksX1_gapPriceOf_8 10 rfl rfl)
theorem dX1_gapPriceOf_198 : decode cX1_gapPriceOf 198 = .ok (.iinc 7 1, 3) := dk_132 7 1 (dk_at dksX1_gapPriceOf_8 12 rfl rfl)
theorem dX1_gapPriceOf_201 : decode cX1_gapPriceOf 201 = .ok (.goto (-46), 3) := dk_167 255 210 (dk_at dksX1_gapPriceOf_8 15 rfl rfl)
theorem dX1_gapPriceOf_204 : decode cX1_gapPriceOf 204 = .ok (.iload_n 2, 1) := dk_28 (dk_at dksX1_gapPriceOf_8 18 rfl rfl)
theorem dX1_gapPriceOf_205 : decode cX1_gapPriceOf 205 = .ok (.ifCond .ne 7, 3) := dk_154 0 7 (dk_at dksX1_gapPriceOf_8 19 rfl rfl)
theorem dX1_gapPriceOf_208 : decode cX1_gapPriceOf 208 = .ok (.iconst (-1), 1) := dk_2 (dk_at dksX1_gapPriceOf_8 22 rfl rfl)
theorem dX1_gapPriceOf_209 : decode cX1_gapPriceOf 209 = .ok (.goto 5, 3) := dk_167 0 5 (dk_at dksX1_gapPriceOf_9 0 rfl rfl)
theorem dX1_gapPriceOf_212 : decode cX1_gapPriceOf 212 = .ok (.iload 5, 2) := dk_21 5 (dk_at dksX1_gapPriceOf_9 3 rfl rfl)
theorem dX1_gapPriceOf_214 : decode cX1_gapPriceOf 214 = .ok (.ireturn, 1) := dk_172 (dk_at dksX1_gapPriceOf_9 5 rfl rfl)
abbrev cX1_used : ByteArray := prog_1_method_58_code
def yX1_used : MethodName := ⟨RX1, "used", "(LGridMarket$Day;I)[I"⟩
def dkwX1_used_7 : List UInt8 := [54, 4, 132, 7, 1, 167, 255, 143, 132, 5, 1, 167, 255, 109, 44, 176]
abbrev dktX1_used_7 : List UInt8 := dkwX1_used_7 ++ []
def dkwX1_used_6 : List UInt8 := [167, 0, 7, 44, 21, 7, 46, 79, 21, 4, 21, 9, 153, 0, 10, 44, 21, 7, 46, 167, 0, 4, 3, 100]
abbrev dktX1_used_6 : List UInt8 := dkwX1_used_6 ++ dktX1_used_7
def dkwX1_used_5 : List UInt8 := [167, 0, 4, 3, 54, 9, 44, 21, 7, 21, 9, 153, 0, 16, 21, 4, 25, 8, 180, 1, 137, 184, 1, 96]
abbrev dktX1_used_5 : List UInt8 := dkwX1_used_5 ++ dktX1_used_6
def dkwX1_used_4 : List UInt8 := [29, 156, 0, 7, 4, 167, 0, 4, 3, 160, 0, 17, 25, 8, 180, 1, 136, 21, 6, 160, 0, 7, 4]
abbrev dktX1_used_4 : List UInt8 := dkwX1_used_4 ++ dktX1_used_5
def dkwX1_used_3 : List UInt8 := [185, 0, 91, 2, 0, 192, 0, 155, 58, 8, 25, 8, 180, 1, 132, 27, 160, 0, 34, 25, 8, 180, 1, 133]
abbrev dktX1_used_3 : List UInt8 := dkwX1_used_3 ++ dktX1_used_4
def dkwX1_used_2 : List UInt8 := [21, 5, 100, 54, 6, 3, 54, 7, 21, 7, 44, 190, 162, 0, 112, 42, 180, 0, 152, 21, 7]
abbrev dktX1_used_2 : List UInt8 := dkwX1_used_2 ++ dktX1_used_3
def dkwX1_used_1 : List UInt8 := [3, 54, 5, 21, 5, 17, 1, 44, 163, 0, 145, 29, 156, 0, 8, 21, 5, 167, 0, 9, 17, 1, 44]
abbrev dktX1_used_1 : List UInt8 := dkwX1_used_1 ++ dktX1_used_2
def dkwX1_used_0 : List UInt8 := [42, 180, 0, 152, 185, 0, 70, 1, 0, 188, 10, 77, 42, 27, 182, 0, 246, 62, 29, 184, 1, 11, 54, 4]
abbrev dktX1_used_0 : List UInt8 := dkwX1_used_0 ++ dktX1_used_1
theorem dksX1_used_0 : cX1_used.data.toList.drop 0 = dktX1_used_0 := by decide +kernel
theorem dksX1_used_1 : cX1_used.data.toList.drop 24 = dktX1_used_1 := dk_seg dksX1_used_0 24 rfl rfl
theorem dksX1_used_2 : cX1_used.data.toList.drop 47 = dktX1_used_2 := dk_seg dksX1_used_1 23 rfl rfl
theorem dksX1_used_3 : cX1_used.data.toList.drop 68 = dktX1_used_3 := dk_seg dksX1_used_2 21 rfl rfl
theorem dksX1_used_4 : cX1_used.data.toList.drop 92 = dktX1_used_4 := dk_seg dksX1_used_3 24 rfl rfl
theorem dksX1_used_5 : cX1_used.data.toList.drop 115 = dktX1_used_5 := dk_seg dksX1_used_4 23 rfl rfl
theorem dksX1_used_6 : cX1_used.data.toList.drop 139 = dktX1_used_6 := dk_seg dksX1_used_5 24 rfl rfl
theorem dksX1_used_7 : cX1_used.data.toList.drop 163 = dktX1_used_7 := dk_seg dksX1_used_6 24 rfl rfl
theorem dX1_used_0 : decode cX1_used 0 = .ok (.aload_n 0, 1) := dk_42 (dk_at dksX1_used_0 0 rfl rfl)
theorem dX1_used_1 : decode cX1_used 1 = .ok (.getfield 152, 3) := dk_180 0 152 (dk_at dksX1_used_0 1 rfl rfl)
theorem dX1_used_4 : decode cX1_used 4 = .ok (.invokeinterface 70 1, 5) := by decide +kernel
theorem dX1_used_9 : decode cX1_used 9 = .ok (.newarray .int, 2) := dk_188_10 (dk_at dksX1_used_0 9 rfl rfl)
theorem dX1_used_11 : decode cX1_used 11 = .ok (.astore_n 2, 1) := dk_77 (dk_at dksX1_used_0 11 rfl rfl)
theorem dX1_used_12 : decode cX1_used 12 = .ok (.aload_n 0, 1) := dk_42 (dk_at dksX1_used_0 12 rfl rfl)
theorem dX1_used_13 : decode cX1_used 13 = .ok (.iload_n 1, 1) := dk_27 (dk_at dksX1_used_0 13 rfl rfl)
theorem dX1_used_14 : decode cX1_used 14 = .ok (.invokevirtual 246, 3) := dk_182 0 246 (dk_at dksX1_used_0 14 rfl rfl)
theorem dX1_used_17 : decode cX1_used 17 = .ok (.istore_n 3, 1) := dk_62 (dk_at dksX1_used_0 17 rfl rfl)
theorem dX1_used_18 : decode cX1_used 18 = .ok (.iload_n 3, 1) := dk_29 (dk_at dksX1_used_0 18 rfl rfl)
theorem dX1_used_19 : decode cX1_used 19 = .ok (.invokestatic 267, 3) := dk_184 1 11 (dk_at dksX1_used_0 19 rfl rfl)
theorem dX1_used_22 : decode cX1_used 22 = .ok (.istore 4, 2) := dk_54 4 (dk_at dksX1_used_0 22 rfl rfl)
theorem dX1_used_24 : decode cX1_used 24 = .ok (.iconst 0, 1) := dk_3 (dk_at dksX1_used_1 0 rfl rfl)
theorem dX1_used_25 : decode cX1_used 25 = .ok (.istore 5, 2) := dk_54 5 (dk_at dksX1_used_1 1 rfl rfl)
theorem dX1_used_27 : decode cX1_used 27 = .ok (.iload 5, 2) := dk_21 5 (dk_at dksX1_used_1 3 rfl rfl)
theorem dX1_used_29 : decode cX1_used 29 = .ok (.sipush 300, 3) := dk_17 1 44 (dk_at dksX1_used_1 5 rfl rfl)
theorem dX1_used_32 : decode cX1_used 32 = .ok (.if_icmp .gt 145, 3) := dk_163 0 145 (dk_at dksX1_used_1 8 rfl rfl)
theorem dX1_used_35 : decode cX1_used 35 = .ok (.iload_n 3, 1) := dk_29 (dk_at dksX1_used_1 11 rfl rfl)
theorem dX1_used_36 : decode cX1_used 36 = .ok (.ifCond .ge 8, 3) := dk_156 0 8 (dk_at dksX1_used_1 12 rfl rfl)
theorem dX1_used_39 : decode cX1_used 39 = .ok (.iload 5, 2) := dk_21 5 (dk_at dksX1_used_1 15 rfl rfl)
theorem dX1_used_41 : decode cX1_used 41 = .ok (.goto 9, 3) := dk_167 0 9 (dk_at dksX1_used_1 17 rfl rfl)
theorem dX1_used_44 : decode cX1_used 44 = .ok (.sipush 300, 3) := dk_17 1 44 (dk_at dksX1_used_1 20 rfl rfl)
theorem dX1_used_47 : decode cX1_used 47 = .ok (.iload 5, 2) := dk_21 5 (dk_at dksX1_used_2 0 rfl rfl)
theorem dX1_used_49 : decode cX1_used 49 = .ok (.isub, 1) := dk_100 (dk_at dksX1_used_2 2 rfl rfl)
theorem dX1_used_50 : decode cX1_used 50 = .ok (.istore 6, 2) := dk_54 6 (dk_at dksX1_used_2 3 rfl rfl)
theorem dX1_used_52 : decode cX1_used 52 = .ok (.iconst 0, 1) := dk_3 (dk_at dksX1_used_2 5 rfl rfl)
theorem dX1_used_53 : decode cX1_used 53 = .ok (.istore 7, 2) := dk_54 7 (dk_at dksX1_used_2 6 rfl rfl)
theorem dX1_used_55 : decode cX1_used 55 = .ok (.iload 7, 2) := dk_21 7 (dk_at dksX1_used_2 8 rfl rfl)
theorem dX1_used_57 : decode cX1_used 57 = .ok (.aload_n 2, 1) := dk_44 (dk_at dksX1_used_2 10 rfl rfl)
theorem dX1_used_58 : decode cX1_used 58 = .ok (.arraylength, 1) := dk_190 (dk_at dksX1_used_2 11 rfl rfl)
theorem dX1_used_59 : decode cX1_used 59 = .ok (.if_icmp .ge 112, 3) := dk_162 0 112 (dk_at dksX1_used_2 12 rfl rfl)
theorem dX1_used_62 : decode cX1_used 62 = .ok (.aload_n 0, 1) := dk_42 (dk_at dksX1_used_2 15 rfl rfl)
theorem dX1_used_63 : decode cX1_used 63 = .ok (.getfield 152, 3) := dk_180 0 152 (dk_at dksX1_used_2 16 rfl rfl)
theorem dX1_used_66 : decode cX1_used 66 = .ok (.iload 7, 2) := dk_21 7 (dk_at dksX1_used_2 19 rfl rfl)
theorem dX1_used_68 : decode cX1_used 68 = .ok (.invokeinterface 91 2, 5) := by decide +kernel
theorem dX1_used_73 : decode cX1_used 73 = .ok (.checkcast 155, 3) := dk_192 0 155 (dk_at dksX1_used_3 5 rfl rfl)
theorem dX1_used_76 : decode cX1_used 76 = .ok (.astore 8, 2) := dk_58 8 (dk_at dksX1_used_3 8 rfl rfl)
theorem dX1_used_78 : decode cX1_used 78 = .ok (.aload 8, 2) := dk_25 8 (dk_at dksX1_used_3 10 rfl rfl)
theorem dX1_used_80 : decode cX1_used 80 = .ok (.getfield 388, 3) := dk_180 1 132 (dk_at dksX1_used_3 12 rfl rfl)
theorem dX1_used_83 : decode cX1_used 83 = .ok (.iload_n 1, 1) := dk_27 (dk_at dksX1_used_3 15 rfl rfl)
theorem dX1_used_84 : decode cX1_used 84 = .ok (.if_icmp .ne 34, 3) := dk_160 0 34 (dk_at dksX1_used_3 16 rfl rfl)
theorem dX1_used_87 : decode cX1_used 87 = .ok (.aload 8, 2) := dk_25 8 (dk_at dksX1_used_3 19 rfl rfl)
theorem dX1_used_89 : decode cX1_used 89 = .ok (.getfield 389, 3) := dk_180 1 133 (dk_at dksX1_used_3 21 rfl rfl)
theorem dX1_used_92 : decode cX1_used 92 = .ok (.iload_n 3, 1) := dk_29 (dk_at dksX1_used_4 0 rfl rfl)
theorem dX1_used_93 : decode cX1_used 93 = .ok (.ifCond .ge 7, 3) := dk_156 0 7 (dk_at dksX1_used_4 1 rfl rfl)
theorem dX1_used_96 : decode cX1_used 96 = .ok (.iconst 1, 1) := dk_4 (dk_at dksX1_used_4 4 rfl rfl)
theorem dX1_used_97 : decode cX1_used 97 = .ok (.goto 4, 3) := dk_167 0 4 (dk_at dksX1_used_4 5 rfl rfl)
theorem dX1_used_100 : decode cX1_used 100 = .ok (.iconst 0, 1) := dk_3 (dk_at dksX1_used_4 8 rfl rfl)
theorem dX1_used_101 : decode cX1_used 101 = .ok (.if_icmp .ne 17, 3) := dk_160 0 17 (dk_at dksX1_used_4 9 rfl rfl)
theorem dX1_used_104 : decode cX1_used 104 = .ok (.aload 8, 2) := dk_25 8 (dk_at dksX1_used_4 12 rfl rfl)
theorem dX1_used_106 : decode cX1_used 106 = .ok (.getfield 392, 3) := dk_180 1 136 (dk_at dksX1_used_4 14 rfl rfl)
theorem dX1_used_109 : decode cX1_used 109 = .ok (.iload 6, 2) := dk_21 6 (dk_at dksX1_used_4 17 rfl rfl)
theorem dX1_used_111 : decode cX1_used 111 = .ok (.if_icmp .ne 7, 3) := dk_160 0 7 (dk_at dksX1_used_4 19 rfl rfl)
theorem dX1_used_114 : decode cX1_used 114 = .ok (.iconst 1, 1) := dk_4 (dk_at dksX1_used_4 22 rfl rfl)
theorem dX1_used_115 : decode cX1_used 115 = .ok (.goto 4, 3) := dk_167 0 4 (dk_at dksX1_used_5 0 rfl rfl)
theorem dX1_used_118 : decode cX1_used 118 = .ok (.iconst 0, 1) := dk_3 (dk_at dksX1_used_5 3 rfl rfl)
theorem dX1_used_119 : decode cX1_used 119 = .ok (.istore 9, 2) := dk_54 9 (dk_at dksX1_used_5 4 rfl rfl)
theorem dX1_used_121 : decode cX1_used 121 = .ok (.aload_n 2, 1) := dk_44 (dk_at dksX1_used_5 6 rfl rfl)
theorem dX1_used_122 : decode cX1_used 122 = .ok (.iload 7, 2) := dk_21 7 (dk_at dksX1_used_5 7 rfl rfl)
theorem dX1_used_124 : decode cX1_used 124 = .ok (.iload 9, 2) := dk_21 9 (dk_at dksX1_used_5 9 rfl rfl)
theorem dX1_used_126 : decode cX1_used 126 = .ok (.ifCond .eq 16, 3) := dk_153 0 16 (dk_at dksX1_used_5 11 rfl rfl)
theorem dX1_used_129 : decode cX1_used 129 = .ok (.iload 4, 2) := dk_21 4 (dk_at dksX1_used_5 14 rfl rfl)
theorem dX1_used_131 : decode cX1_used 131 = .ok (.aload 8, 2) := dk_25 8 (dk_at dksX1_used_5 16 rfl rfl)
theorem dX1_used_133 : decode cX1_used 133 = .ok (.getfield 393, 3) := dk_180 1 137 (dk_at dksX1_used_5 18 rfl rfl)
theorem dX1_used_136 : decode cX1_used 136 = .ok (.invokestatic 352, 3) := dk_184 1 96 (dk_at dksX1_used_5 21 rfl rfl)
theorem dX1_used_139 : decode cX1_used 139 = .ok (.goto 7, 3) := dk_167 0 7 (dk_at dksX1_used_6 0 rfl rfl)
theorem dX1_used_142 : decode cX1_used 142 = .ok (.aload_n 2, 1) := dk_44 (dk_at dksX1_used_6 3 rfl rfl)
theorem dX1_used_143 : decode cX1_used 143 = .ok (.iload 7, 2) := dk_21 7 (dk_at dksX1_used_6 4 rfl rfl)
theorem dX1_used_145 : decode cX1_used 145 = .ok (.iaload, 1) := dk_46 (dk_at dksX1_used_6 6 rfl rfl)
theorem dX1_used_146 : decode cX1_used 146 = .ok (.iastore, 1) := dk_79 (dk_at dksX1_used_6 7 rfl rfl)
theorem dX1_used_147 : decode cX1_used 147 = .ok (.iload 4, 2) := dk_21 4 (dk_at dksX1_used_6 8 rfl rfl)
theorem dX1_used_149 : decode cX1_used 149 = .ok (.iload 9, 2) := dk_21 9 (dk_at dksX1_used_6 10 rfl rfl)
theorem dX1_used_151 : decode cX1_used 151 = .ok (.ifCond .eq 10, 3) := dk_153 0 10 (dk_at dksX1_used_6 12 rfl rfl)
theorem dX1_used_154 : decode cX1_used 154 = .ok (.aload_n 2, 1) := dk_44 (dk_at dksX1_used_6 15 rfl rfl)
theorem dX1_used_155 : decode cX1_used 155 = .ok (.iload 7, 2) := dk_21 7 (dk_at dksX1_used_6 16 rfl rfl)
theorem dX1_used_157 : decode cX1_used 157 = .ok (.iaload, 1) := dk_46 (dk_at dksX1_used_6 18 rfl rfl)
theorem dX1_used_158 : decode cX1_used 158 = .ok (.goto 4, 3) := dk_167 0 4 (dk_at dksX1_used_6 19 rfl rfl)
theorem dX1_used_161 : decode cX1_used 161 = .ok (.iconst 0, 1) := dk_3 (dk_at dksX1_used_6 22 rfl rfl)
theorem dX1_used_162 : decode cX1_used 162 = .ok (.isub, 1) := dk_100 (dk_at dksX1_used_6 23 rfl rfl)
theorem dX1_used_163 : decode cX1_used 163 = .ok (.istore 4, 2) := dk_54 4 (dk_at dksX1_used_7 0 rfl rfl)
theorem dX1_used_165 : decode cX1_used 165 = .ok (.iinc 7 1, 3) := dk_132 7 1 (dk_at dksX1_used_7 2 rfl rfl)
theorem dX1_used_168 : decode cX1_used 168 = .ok (.goto (-113), 3) := dk_167 255 143 (dk_at dksX1_used_7 5 rfl rfl)
theorem dX1_used_171 : decode cX1_used 171 = .ok (.iinc 5 1, 3) := dk_132 5 1 (dk_at dksX1_used_7 8 rfl rfl)
theorem dX1_used_174 : decode cX1_used 174 = .ok (.goto (-147), 3) := dk_167 255 109 (dk_at dksX1_used_7 11 rfl rfl)
theorem dX1_used_177 : decode cX1_used 177 = .ok (.aload_n 2, 1) := dk_44 (dk_at dksX1_used_7 14 rfl rfl)
theorem dX1_used_178 : decode cX1_used 178 = .ok (.areturn, 1) := dk_176 (dk_at dksX1_used_7 15 rfl rfl)
abbrev cX1_fail : ByteArray := prog_1_method_62_code
def yX1_fail : MethodName := ⟨RX1, "fail", "()I"⟩
def dkwX1_fail_7 : List UInt8 := [21, 6, 100, 181, 0, 186, 42, 182, 1, 158, 61, 167, 255, 88, 27, 172]
abbrev dktX1_fail_7 : List UInt8 := dkwX1_fail_7 ++ []
def dkwX1_fail_6 : List UInt8 := [46, 21, 8, 100, 79, 21, 6, 21, 8, 100, 54, 6, 132, 7, 1, 167, 255, 189, 42, 89, 180, 0, 186]
abbrev dktX1_fail_6 : List UInt8 := dkwX1_fail_6 ++ dktX1_fail_7
def dkwX1_fail_5 : List UInt8 := [29, 133, 42, 180, 0, 30, 21, 7, 46, 133, 105, 22, 4, 109, 136, 54, 8, 42, 180, 0, 27, 21, 7, 92]
abbrev dktX1_fail_5 : List UInt8 := dkwX1_fail_5 ++ dktX1_fail_6
def dkwX1_fail_4 : List UInt8 := [162, 0, 66, 22, 4, 9, 148, 158, 0, 59, 42, 180, 0, 33, 21, 7, 51, 153, 0, 7, 3, 167, 0, 18]
abbrev dktX1_fail_4 : List UInt8 := dkwX1_fail_4 ++ dktX1_fail_5
def dkwX1_fail_3 : List UInt8 := [21, 6, 46, 133, 97, 55, 4, 132, 6, 1, 167, 255, 219, 29, 54, 6, 3, 54, 7, 21, 7, 16, 6]
abbrev dktX1_fail_3 : List UInt8 := dkwX1_fail_3 ++ dktX1_fail_4
def dkwX1_fail_2 : List UInt8 := [162, 0, 36, 22, 4, 42, 180, 0, 33, 21, 6, 51, 153, 0, 7, 9, 167, 0, 11, 42, 180, 0, 30]
abbrev dktX1_fail_2 : List UInt8 := dkwX1_fail_2 ++ dktX1_fail_3
def dkwX1_fail_1 : List UInt8 := [28, 3, 79, 42, 180, 0, 33, 28, 4, 84, 132, 1, 1, 9, 55, 4, 3, 54, 6, 21, 6, 16, 6]
abbrev dktX1_fail_1 : List UInt8 := dkwX1_fail_1 ++ dktX1_fail_2
def dkwX1_fail_0 : List UInt8 := [3, 60, 42, 182, 1, 158, 61, 28, 2, 159, 0, 169, 42, 180, 0, 27, 28, 46, 116, 62, 42, 180, 0, 27]
abbrev dktX1_fail_0 : List UInt8 := dkwX1_fail_0 ++ dktX1_fail_1
theorem dksX1_fail_0 : cX1_fail.data.toList.drop 0 = dktX1_fail_0 := by decide +kernel
theorem dksX1_fail_1 : cX1_fail.data.toList.drop 24 = dktX1_fail_1 := dk_seg dksX1_fail_0 24 rfl rfl
theorem dksX1_fail_2 : cX1_fail.data.toList.drop 47 = dktX1_fail_2 := dk_seg dksX1_fail_1 23 rfl rfl
theorem dksX1_fail_3 : cX1_fail.data.toList.drop 70 = dktX1_fail_3 := dk_seg dksX1_fail_2 23 rfl rfl
theorem dksX1_fail_4 : cX1_fail.data.toList.drop 93 = dktX1_fail_4 := dk_seg dksX1_fail_3 23 rfl rfl
theorem dksX1_fail_5 : cX1_fail.data.toList.drop 117 = dktX1_fail_5 := dk_seg dksX1_fail_4 24 rfl rfl
theorem dksX1_fail_6 : cX1_fail.data.toList.drop 141 = dktX1_fail_6 := dk_seg dksX1_fail_5 24 rfl rfl
theorem dksX1_fail_7 : cX1_fail.data.toList.drop 164 = dktX1_fail_7 := dk_seg dksX1_fail_6 23 rfl rfl
theorem dX1_fail_0 : decode cX1_fail 0 = .ok (.iconst 0, 1) := dk_3 (dk_at dksX1_fail_0 0 rfl rfl)
theorem dX1_fail_1 : decode cX1_fail 1 = .ok (.istore_n 1, 1) := dk_60 (dk_at dksX1_fail_0 1 rfl rfl)
theorem dX1_fail_2 : decode cX1_fail 2 = .ok (.aload_n 0, 1) := dk_42 (dk_at dksX1_fail_0 2 rfl rfl)
theorem dX1_fail_3 : decode cX1_fail 3 = .ok (.invokevirtual 414, 3) := dk_182 1 158 (dk_at dksX1_fail_0 3 rfl rfl)
theorem dX1_fail_6 : decode cX1_fail 6 = .ok (.istore_n 2, 1) := dk_61 (dk_at dksX1_fail_0 6 rfl rfl)
theorem dX1_fail_7 : decode cX1_fail 7 = .ok (.iload_n 2, 1) := dk_28 (dk_at dksX1_fail_0 7 rfl rfl)
theorem dX1_fail_8 : decode cX1_fail 8 = .ok (.iconst (-1), 1) := dk_2 (dk_at dksX1_fail_0 8 rfl rfl)
theorem dX1_fail_9 : decode cX1_fail 9 = .ok (.if_icmp .eq 169, 3) := dk_159 0 169 (dk_at dksX1_fail_0 9 rfl rfl)
theorem dX1_fail_12 : decode cX1_fail 12 = .ok (.aload_n 0, 1) := dk_42 (dk_at dksX1_fail_0 12 rfl rfl)
theorem dX1_fail_13 : decode cX1_fail 13 = .ok (.getfield 27, 3) := dk_180 0 27 (dk_at dksX1_fail_0 13 rfl rfl)
theorem dX1_fail_16 : decode cX1_fail 16 = .ok (.iload_n 2, 1) := dk_28 (dk_at dksX1_fail_0 16 rfl rfl)
theorem dX1_fail_17 : decode cX1_fail 17 = .ok (.iaload, 1) := dk_46 (dk_at dksX1_fail_0 17 rfl rfl)
theorem dX1_fail_18 : decode cX1_fail 18 = .ok (.ineg, 1) := dk_116 (dk_at dksX1_fail_0 18 rfl rfl)
theorem dX1_fail_19 : decode cX1_fail 19 = .ok (.istore_n 3, 1) := dk_62 (dk_at dksX1_fail_0 19 rfl rfl)
theorem dX1_fail_20 : decode cX1_fail 20 = .ok (.aload_n 0, 1) := dk_42 (dk_at dksX1_fail_0 20 rfl rfl)
theorem dX1_fail_21 : decode cX1_fail 21 = .ok (.getfield 27, 3) := dk_180 0 27 (dk_at dksX1_fail_0 21 rfl rfl)
theorem dX1_fail_24 : decode cX1_fail 24 = .ok (.iload_n 2, 1) := dk_28 (dk_at dksX1_fail_1 0 rfl rfl)
theorem dX1_fail_25 : decode cX1_fail 25 = .ok (.iconst 0, 1) := dk_3 (dk_at dksX1_fail_1 1 rfl rfl)
theorem dX1_fail_26 : decode cX1_fail 26 = .ok (.iastore, 1) := dk_79 (dk_at dksX1_fail_1 2 rfl rfl)
theorem dX1_fail_27 : decode cX1_fail 27 = .ok (.aload_n 0, 1) := dk_42 (dk_at dksX1_fail_1 3 rfl rfl)
theorem dX1_fail_28 : decode cX1_fail 28 = .ok (.getfield 33, 3) := dk_180 0 33 (dk_at dksX1_fail_1 4 rfl rfl)
theorem dX1_fail_31 : decode cX1_fail 31 = .ok (.iload_n 2, 1) := dk_28 (dk_at dksX1_fail_1 7 rfl rfl)
theorem dX1_fail_32 : decode cX1_fail 32 = .ok (.iconst 1, 1) := dk_4 (dk_at dksX1_fail_1 8 rfl rfl)
theorem dX1_fail_33 : decode cX1_fail 33 = .ok (.bastore, 1) := dk_84 (dk_at dksX1_fail_1 9 rfl rfl)
theorem dX1_fail_34 : decode cX1_fail 34 = .ok (.iinc 1 1, 3) := dk_132 1 1 (dk_at dksX1_fail_1 10 rfl rfl)
theorem dX1_fail_37 : decode cX1_fail 37 = .ok (.lconst 0, 1) := dk_9 (dk_at dksX1_fail_1 13 rfl rfl)
theorem dX1_fail_38 : decode cX1_fail 38 = .ok (.lstore 4, 2) := dk_55 4 (dk_at dksX1_fail_1 14 rfl rfl)
theorem dX1_fail_40 : decode cX1_fail 40 = .ok (.iconst 0, 1) := dk_3 (dk_at dksX1_fail_1 16 rfl rfl)
theorem dX1_fail_41 : decode cX1_fail 41 = .ok (.istore 6, 2) := dk_54 6 (dk_at dksX1_fail_1 17 rfl rfl)
theorem dX1_fail_43 : decode cX1_fail 43 = .ok (.iload 6, 2) := dk_21 6 (dk_at dksX1_fail_1 19 rfl rfl)
theorem dX1_fail_45 : decode cX1_fail 45 = .ok (.bipush 6, 2) := dk_16 6 (dk_at dksX1_fail_1 21 rfl rfl)
theorem dX1_fail_47 : decode cX1_fail 47 = .ok (.if_icmp .ge 36, 3) := dk_162 0 36 (dk_at dksX1_fail_2 0 rfl rfl)
theorem dX1_fail_50 : decode cX1_fail 50 = .ok (.lload 4, 2) := dk_22 4 (dk_at dksX1_fail_2 3 rfl rfl)
theorem dX1_fail_52 : decode cX1_fail 52 = .ok (.aload_n 0, 1) := dk_42 (dk_at dksX1_fail_2 5 rfl rfl)
theorem dX1_fail_53 : decode cX1_fail 53 = .ok (.getfield 33, 3) := dk_180 0 33 (dk_at dksX1_fail_2 6 rfl rfl)
theorem dX1_fail_56 : decode cX1_fail 56 = .ok (.iload 6, 2) := dk_21 6 (dk_at dksX1_fail_2 9 rfl rfl)
theorem dX1_fail_58 : decode cX1_fail 58 = .ok (.baload, 1) := dk_51 (dk_at dksX1_fail_2 11 rfl rfl)
theorem dX1_fail_59 : decode cX1_fail 59 = .ok (.ifCond .eq 7, 3) := dk_153 0 7 (dk_at dksX1_fail_2 12 rfl rfl)
theorem dX1_fail_62 : decode cX1_fail 62 = .ok (.lconst 0, 1) := dk_9 (dk_at dksX1_fail_2 15 rfl rfl)
theorem dX1_fail_63 : decode cX1_fail 63 = .ok (.goto 11, 3) := dk_167 0 11 (dk_at dksX1_fail_2 16 rfl rfl)
theorem dX1_fail_66 : decode cX1_fail 66 = .ok (.aload_n 0, 1) := dk_42 (dk_at dksX1_fail_2 19 rfl rfl)
theorem dX1_fail_67 : decode cX1_fail 67 = .ok (.getfield 30, 3) := dk_180 0 30 (dk_at dksX1_fail_2 20 rfl rfl)
theorem dX1_fail_70 : decode cX1_fail 70 = .ok (.iload 6, 2) := dk_21 6 (dk_at dksX1_fail_3 0 rfl rfl)
theorem dX1_fail_72 : decode cX1_fail 72 = .ok (.iaload, 1) := dk_46 (dk_at dksX1_fail_3 2 rfl rfl)
theorem dX1_fail_73 : decode cX1_fail 73 = .ok (.i2l, 1) := dk_133 (dk_at dksX1_fail_3 3 rfl rfl)
theorem dX1_fail_74 : decode cX1_fail 74 = .ok (.ladd, 1) := dk_97 (dk_at dksX1_fail_3 4 rfl rfl)
theorem dX1_fail_75 : decode cX1_fail 75 = .ok (.lstore 4, 2) := dk_55 4 (dk_at dksX1_fail_3 5 rfl rfl)
theorem dX1_fail_77 : decode cX1_fail 77 = .ok (.iinc 6 1, 3) := dk_132 6 1 (dk_at dksX1_fail_3 7 rfl rfl)
theorem dX1_fail_80 : decode cX1_fail 80 = .ok (.goto (-37), 3) := dk_167 255 219 (dk_at dksX1_fail_3 10 rfl rfl)
theorem dX1_fail_83 : decode cX1_fail 83 = .ok (.iload_n 3, 1) := dk_29 (dk_at dksX1_fail_3 13 rfl rfl)
theorem dX1_fail_84 : decode cX1_fail 84 = .ok (.istore 6, 2) := dk_54 6 (dk_at dksX1_fail_3 14 rfl rfl)
theorem dX1_fail_86 : decode cX1_fail 86 = .ok (.iconst 0, 1) := dk_3 (dk_at dksX1_fail_3 16 rfl rfl)
theorem dX1_fail_87 : decode cX1_fail 87 = .ok (.istore 7, 2) := dk_54 7 (dk_at dksX1_fail_3 17 rfl rfl)
theorem dX1_fail_89 : decode cX1_fail 89 = .ok (.iload 7, 2) := dk_21 7 (dk_at dksX1_fail_3 19 rfl rfl)
theorem dX1_fail_91 : decode cX1_fail 91 = .ok (.bipush 6, 2) := dk_16 6 (dk_at dksX1_fail_3 21 rfl rfl)
theorem dX1_fail_93 : decode cX1_fail 93 = .ok (.if_icmp .ge 66, 3) := dk_162 0 66 (dk_at dksX1_fail_4 0 rfl rfl)
theorem dX1_fail_96 : decode cX1_fail 96 = .ok (.lload 4, 2) := dk_22 4 (dk_at dksX1_fail_4 3 rfl rfl)
theorem dX1_fail_98 : decode cX1_fail 98 = .ok (.lconst 0, 1) := dk_9 (dk_at dksX1_fail_4 5 rfl rfl)
theorem dX1_fail_99 : decode cX1_fail 99 = .ok (.lcmp, 1) := dk_148 (dk_at dksX1_fail_4 6 rfl rfl)
theorem dX1_fail_100 : decode cX1_fail 100 = .ok (.ifCond .le 59, 3) := dk_158 0 59 (dk_at dksX1_fail_4 7 rfl rfl)
theorem dX1_fail_103 : decode cX1_fail 103 = .ok (.aload_n 0, 1) := dk_42 (dk_at dksX1_fail_4 10 rfl rfl)
theorem dX1_fail_104 : decode cX1_fail 104 = .ok (.getfield 33, 3) := dk_180 0 33 (dk_at dksX1_fail_4 11 rfl rfl)
theorem dX1_fail_107 : decode cX1_fail 107 = .ok (.iload 7, 2) := dk_21 7 (dk_at dksX1_fail_4 14 rfl rfl)
theorem dX1_fail_109 : decode cX1_fail 109 = .ok (.baload, 1) := dk_51 (dk_at dksX1_fail_4 16 rfl rfl)
theorem dX1_fail_110 : decode cX1_fail 110 = .ok (.ifCond .eq 7, 3) := dk_153 0 7 (dk_at dksX1_fail_4 17 rfl rfl)
theorem dX1_fail_113 : decode cX1_fail 113 = .ok (.iconst 0, 1) := dk_3 (dk_at dksX1_fail_4 20 rfl rfl)
theorem dX1_fail_114 : decode cX1_fail 114 = .ok (.goto 18, 3) := dk_167 0 18 (dk_at dksX1_fail_4 21 rfl rfl)
theorem dX1_fail_117 : decode cX1_fail 117 = .ok (.iload_n 3, 1) := dk_29 (dk_at dksX1_fail_5 0 rfl rfl)
theorem dX1_fail_118 : decode cX1_fail 118 = .ok (.i2l, 1) := dk_133 (dk_at dksX1_fail_5 1 rfl rfl)
theorem dX1_fail_119 : decode cX1_fail 119 = .ok (.aload_n 0, 1) := dk_42 (dk_at dksX1_fail_5 2 rfl rfl)
theorem dX1_fail_120 : decode cX1_fail 120 = .ok (.getfield 30, 3) := dk_180 0 30 (dk_at dksX1_fail_5 3 rfl rfl)
theorem dX1_fail_123 : decode cX1_fail 123 = .ok (.iload 7, 2) := dk_21 7 (dk_at dksX1_fail_5 6 rfl rfl)
theorem dX1_fail_125 : decode cX1_fail 125 = .ok (.iaload, 1) := dk_46 (dk_at dksX1_fail_5 8 rfl rfl)
theorem dX1_fail_126 : decode cX1_fail 126 = .ok (.i2l, 1) := dk_133 (dk_at dksX1_fail_5 9 rfl rfl)
theorem dX1_fail_127 : decode cX1_fail 127 = .ok (.lmul, 1) := dk_105 (dk_at dksX1_fail_5 10 rfl rfl)
theorem dX1_fail_128 : decode cX1_fail 128 = .ok (.lload 4, 2) := dk_22 4 (dk_at dksX1_fail_5 11 rfl rfl)
theorem dX1_fail_130 : decode cX1_fail 130 = .ok (.ldiv, 1) := dk_109 (dk_at dksX1_fail_5 13 rfl rfl)
theorem dX1_fail_131 : decode cX1_fail 131 = .ok (.l2i, 1) := dk_136 (dk_at dksX1_fail_5 14 rfl rfl)
theorem dX1_fail_132 : decode cX1_fail 132 = .ok (.istore 8, 2) := dk_54 8 (dk_at dksX1_fail_5 15 rfl rfl)
theorem dX1_fail_134 : decode cX1_fail 134 = .ok (.aload_n 0, 1) := dk_42 (dk_at dksX1_fail_5 17 rfl rfl)
theorem dX1_fail_135 : decode cX1_fail 135 = .ok (.getfield 27, 3) := dk_180 0 27 (dk_at dksX1_fail_5 18 rfl rfl)
theorem dX1_fail_138 : decode cX1_fail 138 = .ok (.iload 7, 2) := dk_21 7 (dk_at dksX1_fail_5 21 rfl rfl)
theorem dX1_fail_140 : decode cX1_fail 140 = .ok (.dup2, 1) := dk_92 (dk_at dksX1_fail_5 23 rfl rfl)
theorem dX1_fail_141 : decode cX1_fail 141 = .ok (.iaload, 1) := dk_46 (dk_at dksX1_fail_6 0 rfl rfl)
theorem dX1_fail_142 : decode cX1_fail 142 = .ok (.iload 8, 2) := dk_21 8 (dk_at dksX1_fail_6 1 rfl rfl)
theorem dX1_fail_144 : decode cX1_fail 144 = .ok (.isub, 1) := dk_100 (dk_at dksX1_fail_6 3 rfl rfl)
theorem dX1_fail_145 : decode cX1_fail 145 = .ok (.iastore, 1) := dk_79 (dk_at dksX1_fail_6 4 rfl rfl)
theorem dX1_fail_146 : decode cX1_fail 146 = .ok (.iload 6, 2) := dk_21 6 (dk_at dksX1_fail_6 5 rfl rfl)
theorem dX1_fail_148 : decode cX1_fail 148 = .ok (.iload 8, 2) := dk_21 8 (dk_at dksX1_fail_6 7 rfl rfl)
theorem dX1_fail_150 : decode cX1_fail 150 = .ok (.isub, 1) := dk_100 (dk_at dksX1_fail_6 9 rfl rfl)
theorem dX1_fail_151 : decode cX1_fail 151 = .ok (.istore 6, 2) := dk_54 6 (dk_at dksX1_fail_6 10 rfl rfl)
theorem dX1_fail_153 : decode cX1_fail 153 = .ok (.iinc 7 1, 3) := dk_132 7 1 (dk_at dksX1_fail_6 12 rfl rfl)
theorem dX1_fail_156 : decode cX1_fail 156 = .ok (.goto (-67), 3) := dk_167 255 189 (dk_at dksX1_fail_6 15 rfl rfl)
theorem dX1_fail_159 : decode cX1_fail 159 = .ok (.aload_n 0, 1) := dk_42 (dk_at dksX1_fail_6 18 rfl rfl)
theorem dX1_fail_160 : decode cX1_fail 160 = .ok (.dup, 1) := dk_89 (dk_at dksX1_fail_6 19 rfl rfl)
theorem dX1_fail_161 : decode cX1_fail 161 = .ok (.getfield 186, 3) := dk_180 0 186 (dk_at dksX1_fail_6 20 rfl rfl)
theorem dX1_fail_164 : decode cX1_fail 164 = .ok (.iload 6, 2) := dk_21 6 (dk_at dksX1_fail_7 0 rfl rfl)
theorem dX1_fail_166 : decode cX1_fail 166 = .ok (.isub, 1) := dk_100 (dk_at dksX1_fail_7 2 rfl rfl)
theorem dX1_fail_167 : decode cX1_fail 167 = .ok (.putfield 186, 3) := dk_181 0 186 (dk_at dksX1_fail_7 3 rfl rfl)
theorem dX1_fail_170 : decode cX1_fail 170 = .ok (.aload_n 0, 1) := dk_42 (dk_at dksX1_fail_7 6 rfl rfl)
theorem dX1_fail_171 : decode cX1_fail 171 = .ok (.invokevirtual 414, 3) := dk_182 1 158 (dk_at dksX1_fail_7 7 rfl rfl)
theorem dX1_fail_174 : decode cX1_fail 174 = .ok (.istore_n 2, 1) := dk_61 (dk_at dksX1_fail_7 10 rfl rfl)
theorem dX1_fail_175 : decode cX1_fail 175 = .ok (.goto (-168), 3) := dk_167 255 88 (dk_at dksX1_fail_7 11 rfl rfl)
theorem dX1_fail_178 : decode cX1_fail 178 = .ok (.iload_n 1, 1) := dk_27 (dk_at dksX1_fail_7 14 rfl rfl)
theorem dX1_fail_179 : decode cX1_fail 179 = .ok (.ireturn, 1) := dk_172 (dk_at dksX1_fail_7 15 rfl rfl)
abbrev cX1_lowest : ByteArray := prog_1_method_63_code
def yX1_lowest : MethodName := ⟨RX1, "lowest", "()I"⟩
def dkwX1_lowest_1 : List UInt8 := [156, 0, 7, 28, 167, 0, 4, 27, 60, 132, 2, 255, 167, 255, 225, 27, 172]
abbrev dktX1_lowest_1 : List UInt8 := dkwX1_lowest_1 ++ []
def dkwX1_lowest_0 : List UInt8 := [2, 60, 8, 61, 28, 155, 0, 33, 42, 180, 0, 33, 28, 51, 154, 0, 16, 42, 180, 0, 27, 28, 46]
abbrev dktX1_lowest_0 : List UInt8 := dkwX1_lowest_0 ++ dktX1_lowest_1
theorem dksX1_lowest_0 : cX1_lowest.data.toList.drop 0 = dktX1_lowest_0 := by decide +kernel
theorem dksX1_lowest_1 : cX1_lowest.data.toList.drop 23 = dktX1_lowest_1 := dk_seg dksX1_lowest_0 23 rfl rfl
theorem dX1_lowest_0 : decode cX1_lowest 0 = .ok (.iconst (-1), 1) := dk_2 (dk_at dksX1_lowest_0 0 rfl rfl)
theorem dX1_lowest_1 : decode cX1_lowest 1 = .ok (.istore_n 1, 1) := dk_60 (dk_at dksX1_lowest_0 1 rfl rfl)
theorem dX1_lowest_2 : decode cX1_lowest 2 = .ok (.iconst 5, 1) := dk_8 (dk_at dksX1_lowest_0 2 rfl rfl)
theorem dX1_lowest_3 : decode cX1_lowest 3 = .ok (.istore_n 2, 1) := dk_61 (dk_at dksX1_lowest_0 3 rfl rfl)
theorem dX1_lowest_4 : decode cX1_lowest 4 = .ok (.iload_n 2, 1) := dk_28 (dk_at dksX1_lowest_0 4 rfl rfl)
theorem dX1_lowest_5 : decode cX1_lowest 5 = .ok (.ifCond .lt 33, 3) := dk_155 0 33 (dk_at dksX1_lowest_0 5 rfl rfl)
theorem dX1_lowest_8 : decode cX1_lowest 8 = .ok (.aload_n 0, 1) := dk_42 (dk_at dksX1_lowest_0 8 rfl rfl)
theorem dX1_lowest_9 : decode cX1_lowest 9 = .ok (.getfield 33, 3) := dk_180 0 33 (dk_at dksX1_lowest_0 9 rfl rfl)
theorem dX1_lowest_12 : decode cX1_lowest 12 = .ok (.iload_n 2, 1) := dk_28 (dk_at dksX1_lowest_0 12 rfl rfl)
theorem dX1_lowest_13 : decode cX1_lowest 13 = .ok (.baload, 1) := dk_51 (dk_at dksX1_lowest_0 13 rfl rfl)
theorem dX1_lowest_14 : decode cX1_lowest 14 = .ok (.ifCond .ne 16, 3) := dk_154 0 16 (dk_at dksX1_lowest_0 14 rfl rfl)
theorem dX1_lowest_17 : decode cX1_lowest 17 = .ok (.aload_n 0, 1) := dk_42 (dk_at dksX1_lowest_0 17 rfl rfl)
theorem dX1_lowest_18 : decode cX1_lowest 18 = .ok (.getfield 27, 3) := dk_180 0 27 (dk_at dksX1_lowest_0 18 rfl rfl)
theorem dX1_lowest_21 : decode cX1_lowest 21 = .ok (.iload_n 2, 1) := dk_28 (dk_at dksX1_lowest_0 21 rfl rfl)
theorem dX1_lowest_22 : decode cX1_lowest 22 = .ok (.iaload, 1) := dk_46 (dk_at dksX1_lowest_0 22 rfl rfl)
theorem dX1_lowest_23 : decode cX1_lowest 23 = .ok (.ifCond .ge 7, 3) := dk_156 0 7 (dk_at dksX1_lowest_1 0 rfl rfl)
theorem dX1_lowest_26 : decode cX1_lowest 26 = .ok (.iload_n 2, 1) := dk_28 (dk_at dksX1_lowest_1 3 rfl rfl)
theorem dX1_lowest_27 : decode cX1_lowest 27 = .ok (.goto 4, 3) := dk_167 0 4 (dk_at dksX1_lowest_1 4 rfl rfl)
theorem dX1_lowest_30 : decode cX1_lowest 30 = .ok (.iload_n 1, 1) := dk_27 (dk_at dksX1_lowest_1 7 rfl rfl)
theorem dX1_lowest_31 : decode cX1_lowest 31 = .ok (.istore_n 1, 1) := dk_60 (dk_at dksX1_lowest_1 8 rfl rfl)
theorem dX1_lowest_32 : decode cX1_lowest 32 = .ok (.iinc 2 (-1), 3) := dk_132 2 255 (dk_at dksX1_lowest_1 9 rfl rfl)
theorem dX1_lowest_35 : decode cX1_lowest 35 = .ok (.goto (-31), 3) := dk_167 255 225 (dk_at dksX1_lowest_1 12 rfl rfl)
theorem dX1_lowest_38 : decode cX1_lowest 38 = .ok (.iload_n 1, 1) := dk_27 (dk_at dksX1_lowest_1 15 rfl rfl)
theorem dX1_lowest_39 : decode cX1_lowest 39 = .ok (.ireturn, 1) := dk_172 (dk_at dksX1_lowest_1 16 rfl rfl)
abbrev cX1_price : ByteArray := prog_1_method_17_code
def yX1_price : MethodName := ⟨RX1, "price", "(II)I"⟩
def dkwX1_price_1 : List UInt8 := [182, 0, 192, 180, 0, 196, 28, 50, 27, 46, 172]
abbrev dktX1_price_1 : List UInt8 := dkwX1_price_1 ++ []
def dkwX1_price_0 : List UInt8 := [27, 184, 0, 61, 153, 0, 14, 28, 184, 0, 64, 153, 0, 7, 4, 167, 0, 4, 3, 184, 0, 41, 42]
abbrev dktX1_price_0 : List UInt8 := dkwX1_price_0 ++ dktX1_price_1
theorem dksX1_price_0 : cX1_price.data.toList.drop 0 = dktX1_price_0 := by decide +kernel
theorem dksX1_price_1 : cX1_price.data.toList.drop 23 = dktX1_price_1 := dk_seg dksX1_price_0 23 rfl rfl
theorem dX1_price_0 : decode cX1_price 0 = .ok (.iload_n 1, 1) := dk_27 (dk_at dksX1_price_0 0 rfl rfl)
theorem dX1_price_1 : decode cX1_price 1 = .ok (.invokestatic 61, 3) := dk_184 0 61 (dk_at dksX1_price_0 1 rfl rfl)
theorem dX1_price_4 : decode cX1_price 4 = .ok (.ifCond .eq 14, 3) := dk_153 0 14 (dk_at dksX1_price_0 4 rfl rfl)
theorem dX1_price_7 : decode cX1_price 7 = .ok (.iload_n 2, 1) := dk_28 (dk_at dksX1_price_0 7 rfl rfl)
theorem dX1_price_8 : decode cX1_price 8 = .ok (.invokestatic 64, 3) := dk_184 0 64 (dk_at dksX1_price_0 8 rfl rfl)
theorem dX1_price_11 : decode cX1_price 11 = .ok (.ifCond .eq 7, 3) := dk_153 0 7 (dk_at dksX1_price_0 11 rfl rfl)
theorem dX1_price_14 : decode cX1_price 14 = .ok (.iconst 1, 1) := dk_4 (dk_at dksX1_price_0 14 rfl rfl)
theorem dX1_price_15 : decode cX1_price 15 = .ok (.goto 4, 3) := dk_167 0 4 (dk_at dksX1_price_0 15 rfl rfl)
theorem dX1_price_18 : decode cX1_price 18 = .ok (.iconst 0, 1) := dk_3 (dk_at dksX1_price_0 18 rfl rfl)
theorem dX1_price_19 : decode cX1_price 19 = .ok (.invokestatic 41, 3) := dk_184 0 41 (dk_at dksX1_price_0 19 rfl rfl)
theorem dX1_price_22 : decode cX1_price 22 = .ok (.aload_n 0, 1) := dk_42 (dk_at dksX1_price_0 22 rfl rfl)
theorem dX1_price_23 : decode cX1_price 23 = .ok (.invokevirtual 192, 3) := dk_182 0 192 (dk_at dksX1_price_1 0 rfl rfl)
theorem dX1_price_26 : decode cX1_price 26 = .ok (.getfield 196, 3) := dk_180 0 196 (dk_at dksX1_price_1 3 rfl rfl)
theorem dX1_price_29 : decode cX1_price 29 = .ok (.iload_n 2, 1) := dk_28 (dk_at dksX1_price_1 6 rfl rfl)
theorem dX1_price_30 : decode cX1_price 30 = .ok (.aaload, 1) := dk_50 (dk_at dksX1_price_1 7 rfl rfl)
theorem dX1_price_31 : decode cX1_price 31 = .ok (.iload_n 1, 1) := dk_27 (dk_at dksX1_price_1 8 rfl rfl)
theorem dX1_price_32 : decode cX1_price 32 = .ok (.iaload, 1) := dk_46 (dk_at dksX1_price_1 9 rfl rfl)
theorem dX1_price_33 : decode cX1_price 33 = .ok (.ireturn, 1) := dk_172 (dk_at dksX1_price_1 10 rfl rfl)
abbrev cX1_cleared : ByteArray := prog_1_method_42_code
def yX1_cleared : MethodName := ⟨RX1, "cleared", "()LGridMarket$Result;"⟩
def dkwX1_cleared_1 : List UInt8 := [180, 0, 57, 176]
abbrev dktX1_cleared_1 : List UInt8 := dkwX1_cleared_1 ++ []
def dkwX1_cleared_0 : List UInt8 := [42, 180, 0, 19, 180, 0, 57, 198, 0, 7, 4, 167, 0, 4, 3, 184, 0, 54, 42, 180, 0, 19]
abbrev dktX1_cleared_0 : List UInt8 := dkwX1_cleared_0 ++ dktX1_cleared_1
theorem dksX1_cleared_0 : cX1_cleared.data.toList.drop 0 = dktX1_cleared_0 := by decide +kernel
theorem dksX1_cleared_1 : cX1_cleared.data.toList.drop 22 = dktX1_cleared_1 := dk_seg dksX1_cleared_0 22 rfl rfl
theorem dX1_cleared_0 : decode cX1_cleared 0 = .ok (.aload_n 0, 1) := dk_42 (dk_at dksX1_cleared_0 0 rfl rfl)
theorem dX1_cleared_1 : decode cX1_cleared 1 = .ok (.getfield 19, 3) := dk_180 0 19 (dk_at dksX1_cleared_0 1 rfl rfl)
theorem dX1_cleared_4 : decode cX1_cleared 4 = .ok (.getfield 57, 3) := dk_180 0 57 (dk_at dksX1_cleared_0 4 rfl rfl)
theorem dX1_cleared_7 : decode cX1_cleared 7 = .ok (.ifnull 7, 3) := dk_198 0 7 (dk_at dksX1_cleared_0 7 rfl rfl)
theorem dX1_cleared_10 : decode cX1_cleared 10 = .ok (.iconst 1, 1) := dk_4 (dk_at dksX1_cleared_0 10 rfl rfl)
theorem dX1_cleared_11 : decode cX1_cleared 11 = .ok (.goto 4, 3) := dk_167 0 4 (dk_at dksX1_cleared_0 11 rfl rfl)
theorem dX1_cleared_14 : decode cX1_cleared 14 = .ok (.iconst 0, 1) := dk_3 (dk_at dksX1_cleared_0 14 rfl rfl)
theorem dX1_cleared_15 : decode cX1_cleared 15 = .ok (.invokestatic 54, 3) := dk_184 0 54 (dk_at dksX1_cleared_0 15 rfl rfl)
theorem dX1_cleared_18 : decode cX1_cleared 18 = .ok (.aload_n 0, 1) := dk_42 (dk_at dksX1_cleared_0 18 rfl rfl)
theorem dX1_cleared_19 : decode cX1_cleared 19 = .ok (.getfield 19, 3) := dk_180 0 19 (dk_at dksX1_cleared_0 19 rfl rfl)
theorem dX1_cleared_22 : decode cX1_cleared 22 = .ok (.getfield 57, 3) := dk_180 0 57 (dk_at dksX1_cleared_1 0 rfl rfl)
theorem dX1_cleared_25 : decode cX1_cleared 25 = .ok (.areturn, 1) := dk_176 (dk_at dksX1_cleared_1 3 rfl rfl)
abbrev cX1_net : ByteArray := prog_1_method_18_code
def yX1_net : MethodName := ⟨RX1, "net", "(II)I"⟩
def dkwX1_net_1 : List UInt8 := [182, 0, 192, 180, 0, 200, 28, 50, 27, 46, 172]
abbrev dktX1_net_1 : List UInt8 := dkwX1_net_1 ++ []
def dkwX1_net_0 : List UInt8 := [27, 184, 0, 61, 153, 0, 14, 28, 184, 0, 64, 153, 0, 7, 4, 167, 0, 4, 3, 184, 0, 41, 42]
abbrev dktX1_net_0 : List UInt8 := dkwX1_net_0 ++ dktX1_net_1
theorem dksX1_net_0 : cX1_net.data.toList.drop 0 = dktX1_net_0 := by decide +kernel
theorem dksX1_net_1 : cX1_net.data.toList.drop 23 = dktX1_net_1 := dk_seg dksX1_net_0 23 rfl rfl
theorem dX1_net_0 : decode cX1_net 0 = .ok (.iload_n 1, 1) := dk_27 (dk_at dksX1_net_0 0 rfl rfl)
theorem dX1_net_1 : decode cX1_net 1 = .ok (.invokestatic 61, 3) := dk_184 0 61 (dk_at dksX1_net_0 1 rfl rfl)
theorem dX1_net_4 : decode cX1_net 4 = .ok (.ifCond .eq 14, 3) := dk_153 0 14 (dk_at dksX1_net_0 4 rfl rfl)
theorem dX1_net_7 : decode cX1_net 7 = .ok (.iload_n 2, 1) := dk_28 (dk_at dksX1_net_0 7 rfl rfl)
theorem dX1_net_8 : decode cX1_net 8 = .ok (.invokestatic 64, 3) := dk_184 0 64 (dk_at dksX1_net_0 8 rfl rfl)
theorem dX1_net_11 : decode cX1_net 11 = .ok (.ifCond .eq 7, 3) := dk_153 0 7 (dk_at dksX1_net_0 11 rfl rfl)
theorem dX1_net_14 : decode cX1_net 14 = .ok (.iconst 1, 1) := dk_4 (dk_at dksX1_net_0 14 rfl rfl)
theorem dX1_net_15 : decode cX1_net 15 = .ok (.goto 4, 3) := dk_167 0 4 (dk_at dksX1_net_0 15 rfl rfl)
theorem dX1_net_18 : decode cX1_net 18 = .ok (.iconst 0, 1) := dk_3 (dk_at dksX1_net_0 18 rfl rfl)
theorem dX1_net_19 : decode cX1_net 19 = .ok (.invokestatic 41, 3) := dk_184 0 41 (dk_at dksX1_net_0 19 rfl rfl)
theorem dX1_net_22 : decode cX1_net 22 = .ok (.aload_n 0, 1) := dk_42 (dk_at dksX1_net_0 22 rfl rfl)
theorem dX1_net_23 : decode cX1_net 23 = .ok (.invokevirtual 192, 3) := dk_182 0 192 (dk_at dksX1_net_1 0 rfl rfl)
theorem dX1_net_26 : decode cX1_net 26 = .ok (.getfield 200, 3) := dk_180 0 200 (dk_at dksX1_net_1 3 rfl rfl)
theorem dX1_net_29 : decode cX1_net 29 = .ok (.iload_n 2, 1) := dk_28 (dk_at dksX1_net_1 6 rfl rfl)
theorem dX1_net_30 : decode cX1_net 30 = .ok (.aaload, 1) := dk_50 (dk_at dksX1_net_1 7 rfl rfl)
theorem dX1_net_31 : decode cX1_net 31 = .ok (.iload_n 1, 1) := dk_27 (dk_at dksX1_net_1 8 rfl rfl)
theorem dX1_net_32 : decode cX1_net 32 = .ok (.iaload, 1) := dk_46 (dk_at dksX1_net_1 9 rfl rfl)
theorem dX1_net_33 : decode cX1_net 33 = .ok (.ireturn, 1) := dk_172 (dk_at dksX1_net_1 10 rfl rfl)
abbrev cX1_flow : ByteArray := prog_1_method_19_code
def yX1_flow : MethodName := ⟨RX1, "flow", "(II)I"⟩
def dkwX1_flow_1 : List UInt8 := [27, 42, 182, 0, 192, 180, 0, 200, 28, 50, 184, 0, 203, 172]
abbrev dktX1_flow_1 : List UInt8 := dkwX1_flow_1 ++ []
def dkwX1_flow_0 : List UInt8 := [27, 3, 5, 184, 0, 46, 153, 0, 14, 28, 184, 0, 64, 153, 0, 7, 4, 167, 0, 4, 3, 184, 0, 41]
abbrev dktX1_flow_0 : List UInt8 := dkwX1_flow_0 ++ dktX1_flow_1
theorem dksX1_flow_0 : cX1_flow.data.toList.drop 0 = dktX1_flow_0 := by decide +kernel
theorem dksX1_flow_1 : cX1_flow.data.toList.drop 24 = dktX1_flow_1 := dk_seg dksX1_flow_0 24 rfl rfl
theorem dX1_flow_0 : decode cX1_flow 0 = .ok (.iload_n 1, 1) := dk_27 (dk_at dksX1_flow_0 0 rfl rfl)
theorem dX1_flow_1 : decode cX1_flow 1 = .ok (.iconst 0, 1) := dk_3 (dk_at dksX1_flow_0 1 rfl rfl)
theorem dX1_flow_2 : decode cX1_flow 2 = .ok (.iconst 2, 1) := dk_5 (dk_at dksX1_flow_0 2 rfl rfl)
theorem dX1_flow_3 : decode cX1_flow 3 = .ok (.invokestatic 46, 3) := dk_184 0 46 (dk_at dksX1_flow_0 3 rfl rfl)
theorem dX1_flow_6 : decode cX1_flow 6 = .ok (.ifCond .eq 14, 3) := dk_153 0 14 (dk_at dksX1_flow_0 6 rfl rfl)
theorem dX1_flow_9 : decode cX1_flow 9 = .ok (.iload_n 2, 1) := dk_28 (dk_at dksX1_flow_0 9 rfl rfl)
theorem dX1_flow_10 : decode cX1_flow 10 = .ok (.invokestatic 64, 3) := dk_184 0 64 (dk_at dksX1_flow_0 10 rfl rfl)
theorem dX1_flow_13 : decode cX1_flow 13 = .ok (.ifCond .eq 7, 3) := dk_153 0 7 (dk_at dksX1_flow_0 13 rfl rfl)
theorem dX1_flow_16 : decode cX1_flow 16 = .ok (.iconst 1, 1) := dk_4 (dk_at dksX1_flow_0 16 rfl rfl)
theorem dX1_flow_17 : decode cX1_flow 17 = .ok (.goto 4, 3) := dk_167 0 4 (dk_at dksX1_flow_0 17 rfl rfl)
theorem dX1_flow_20 : decode cX1_flow 20 = .ok (.iconst 0, 1) := dk_3 (dk_at dksX1_flow_0 20 rfl rfl)
theorem dX1_flow_21 : decode cX1_flow 21 = .ok (.invokestatic 41, 3) := dk_184 0 41 (dk_at dksX1_flow_0 21 rfl rfl)
theorem dX1_flow_24 : decode cX1_flow 24 = .ok (.iload_n 1, 1) := dk_27 (dk_at dksX1_flow_1 0 rfl rfl)
theorem dX1_flow_25 : decode cX1_flow 25 = .ok (.aload_n 0, 1) := dk_42 (dk_at dksX1_flow_1 1 rfl rfl)
theorem dX1_flow_26 : decode cX1_flow 26 = .ok (.invokevirtual 192, 3) := dk_182 0 192 (dk_at dksX1_flow_1 2 rfl rfl)
theorem dX1_flow_29 : decode cX1_flow 29 = .ok (.getfield 200, 3) := dk_180 0 200 (dk_at dksX1_flow_1 5 rfl rfl)
theorem dX1_flow_32 : decode cX1_flow 32 = .ok (.iload_n 2, 1) := dk_28 (dk_at dksX1_flow_1 8 rfl rfl)
theorem dX1_flow_33 : decode cX1_flow 33 = .ok (.aaload, 1) := dk_50 (dk_at dksX1_flow_1 9 rfl rfl)
theorem dX1_flow_34 : decode cX1_flow 34 = .ok (.invokestatic 203, 3) := dk_184 0 203 (dk_at dksX1_flow_1 10 rfl rfl)
theorem dX1_flow_37 : decode cX1_flow 37 = .ok (.ireturn, 1) := dk_172 (dk_at dksX1_flow_1 13 rfl rfl)
abbrev cX1_taken : ByteArray := prog_1_method_20_code
def yX1_taken : MethodName := ⟨RX1, "taken", "(I)I"⟩
def dkwX1_taken_1 : List UInt8 := [182, 0, 192, 87, 42, 180, 0, 19, 180, 0, 67, 27, 185, 0, 91, 2, 0, 192, 0, 76, 180, 0, 207, 172]
abbrev dktX1_taken_1 : List UInt8 := dkwX1_taken_1 ++ []
def dkwX1_taken_0 : List UInt8 := [27, 3, 42, 180, 0, 19, 180, 0, 67, 185, 0, 70, 1, 0, 4, 100, 184, 0, 46, 184, 0, 41, 42]
abbrev dktX1_taken_0 : List UInt8 := dkwX1_taken_0 ++ dktX1_taken_1
theorem dksX1_taken_0 : cX1_taken.data.toList.drop 0 = dktX1_taken_0 := by decide +kernel
theorem dksX1_taken_1 : cX1_taken.data.toList.drop 23 = dktX1_taken_1 := dk_seg dksX1_taken_0 23 rfl rfl
theorem dX1_taken_0 : decode cX1_taken 0 = .ok (.iload_n 1, 1) := dk_27 (dk_at dksX1_taken_0 0 rfl rfl)
theorem dX1_taken_1 : decode cX1_taken 1 = .ok (.iconst 0, 1) := dk_3 (dk_at dksX1_taken_0 1 rfl rfl)
theorem dX1_taken_2 : decode cX1_taken 2 = .ok (.aload_n 0, 1) := dk_42 (dk_at dksX1_taken_0 2 rfl rfl)
theorem dX1_taken_3 : decode cX1_taken 3 = .ok (.getfield 19, 3) := dk_180 0 19 (dk_at dksX1_taken_0 3 rfl rfl)
theorem dX1_taken_6 : decode cX1_taken 6 = .ok (.getfield 67, 3) := dk_180 0 67 (dk_at dksX1_taken_0 6 rfl rfl)
theorem dX1_taken_9 : decode cX1_taken 9 = .ok (.invokeinterface 70 1, 5) := by decide +kernel
theorem dX1_taken_14 : decode cX1_taken 14 = .ok (.iconst 1, 1) := dk_4 (dk_at dksX1_taken_0 14 rfl rfl)
theorem dX1_taken_15 : decode cX1_taken 15 = .ok (.isub, 1) := dk_100 (dk_at dksX1_taken_0 15 rfl rfl)
theorem dX1_taken_16 : decode cX1_taken 16 = .ok (.invokestatic 46, 3) := dk_184 0 46 (dk_at dksX1_taken_0 16 rfl rfl)
theorem dX1_taken_19 : decode cX1_taken 19 = .ok (.invokestatic 41, 3) := dk_184 0 41 (dk_at dksX1_taken_0 19 rfl rfl)
theorem dX1_taken_22 : decode cX1_taken 22 = .ok (.aload_n 0, 1) := dk_42 (dk_at dksX1_taken_0 22 rfl rfl)
theorem dX1_taken_23 : decode cX1_taken 23 = .ok (.invokevirtual 192, 3) := dk_182 0 192 (dk_at dksX1_taken_1 0 rfl rfl)
theorem dX1_taken_26 : decode cX1_taken 26 = .ok (.pop, 1) := dk_87 (dk_at dksX1_taken_1 3 rfl rfl)
theorem dX1_taken_27 : decode cX1_taken 27 = .ok (.aload_n 0, 1) := dk_42 (dk_at dksX1_taken_1 4 rfl rfl)
theorem dX1_taken_28 : decode cX1_taken 28 = .ok (.getfield 19, 3) := dk_180 0 19 (dk_at dksX1_taken_1 5 rfl rfl)
theorem dX1_taken_31 : decode cX1_taken 31 = .ok (.getfield 67, 3) := dk_180 0 67 (dk_at dksX1_taken_1 8 rfl rfl)
theorem dX1_taken_34 : decode cX1_taken 34 = .ok (.iload_n 1, 1) := dk_27 (dk_at dksX1_taken_1 11 rfl rfl)
theorem dX1_taken_35 : decode cX1_taken 35 = .ok (.invokeinterface 91 2, 5) := by decide +kernel
theorem dX1_taken_40 : decode cX1_taken 40 = .ok (.checkcast 76, 3) := dk_192 0 76 (dk_at dksX1_taken_1 17 rfl rfl)
theorem dX1_taken_43 : decode cX1_taken 43 = .ok (.getfield 207, 3) := dk_180 0 207 (dk_at dksX1_taken_1 20 rfl rfl)
theorem dX1_taken_46 : decode cX1_taken 46 = .ok (.ireturn, 1) := dk_172 (dk_at dksX1_taken_1 23 rfl rfl)
abbrev cX1_isTaken : ByteArray := prog_1_method_21_code
def yX1_isTaken : MethodName := ⟨RX1, "isTaken", "(I)Z"⟩
def dkwX1_isTaken_1 : List UInt8 := [182, 0, 192, 87, 42, 180, 0, 19, 180, 0, 85, 27, 185, 0, 91, 2, 0, 192, 0, 88, 180, 0, 210, 172]
abbrev dktX1_isTaken_1 : List UInt8 := dkwX1_isTaken_1 ++ []
def dkwX1_isTaken_0 : List UInt8 := [27, 3, 42, 180, 0, 19, 180, 0, 85, 185, 0, 70, 1, 0, 4, 100, 184, 0, 46, 184, 0, 41, 42]
abbrev dktX1_isTaken_0 : List UInt8 := dkwX1_isTaken_0 ++ dktX1_isTaken_1
theorem dksX1_isTaken_0 : cX1_isTaken.data.toList.drop 0 = dktX1_isTaken_0 := by decide +kernel
theorem dksX1_isTaken_1 : cX1_isTaken.data.toList.drop 23 = dktX1_isTaken_1 := dk_seg dksX1_isTaken_0 23 rfl rfl
theorem dX1_isTaken_0 : decode cX1_isTaken 0 = .ok (.iload_n 1, 1) := dk_27 (dk_at dksX1_isTaken_0 0 rfl rfl)
theorem dX1_isTaken_1 : decode cX1_isTaken 1 = .ok (.iconst 0, 1) := dk_3 (dk_at dksX1_isTaken_0 1 rfl rfl)
theorem dX1_isTaken_2 : decode cX1_isTaken 2 = .ok (.aload_n 0, 1) := dk_42 (dk_at dksX1_isTaken_0 2 rfl rfl)
theorem dX1_isTaken_3 : decode cX1_isTaken 3 = .ok (.getfield 19, 3) := dk_180 0 19 (dk_at dksX1_isTaken_0 3 rfl rfl)
theorem dX1_isTaken_6 : decode cX1_isTaken 6 = .ok (.getfield 85, 3) := dk_180 0 85 (dk_at dksX1_isTaken_0 6 rfl rfl)
theorem dX1_isTaken_9 : decode cX1_isTaken 9 = .ok (.invokeinterface 70 1, 5) := by decide +kernel
theorem dX1_isTaken_14 : decode cX1_isTaken 14 = .ok (.iconst 1, 1) := dk_4 (dk_at dksX1_isTaken_0 14 rfl rfl)
theorem dX1_isTaken_15 : decode cX1_isTaken 15 = .ok (.isub, 1) := dk_100 (dk_at dksX1_isTaken_0 15 rfl rfl)
theorem dX1_isTaken_16 : decode cX1_isTaken 16 = .ok (.invokestatic 46, 3) := dk_184 0 46 (dk_at dksX1_isTaken_0 16 rfl rfl)
theorem dX1_isTaken_19 : decode cX1_isTaken 19 = .ok (.invokestatic 41, 3) := dk_184 0 41 (dk_at dksX1_isTaken_0 19 rfl rfl)
theorem dX1_isTaken_22 : decode cX1_isTaken 22 = .ok (.aload_n 0, 1) := dk_42 (dk_at dksX1_isTaken_0 22 rfl rfl)
theorem dX1_isTaken_23 : decode cX1_isTaken 23 = .ok (.invokevirtual 192, 3) := dk_182 0 192 (dk_at dksX1_isTaken_1 0 rfl rfl)
theorem dX1_isTaken_26 : decode cX1_isTaken 26 = .ok (.pop, 1) := dk_87 (dk_at dksX1_isTaken_1 3 rfl rfl)
theorem dX1_isTaken_27 : decode cX1_isTaken 27 = .ok (.aload_n 0, 1) := dk_42 (dk_at dksX1_isTaken_1 4 rfl rfl)
theorem dX1_isTaken_28 : decode cX1_isTaken 28 = .ok (.getfield 19, 3) := dk_180 0 19 (dk_at dksX1_isTaken_1 5 rfl rfl)
theorem dX1_isTaken_31 : decode cX1_isTaken 31 = .ok (.getfield 85, 3) := dk_180 0 85 (dk_at dksX1_isTaken_1 8 rfl rfl)
theorem dX1_isTaken_34 : decode cX1_isTaken 34 = .ok (.iload_n 1, 1) := dk_27 (dk_at dksX1_isTaken_1 11 rfl rfl)
theorem dX1_isTaken_35 : decode cX1_isTaken 35 = .ok (.invokeinterface 91 2, 5) := by decide +kernel
theorem dX1_isTaken_40 : decode cX1_isTaken 40 = .ok (.checkcast 88, 3) := dk_192 0 88 (dk_at dksX1_isTaken_1 17 rfl rfl)
theorem dX1_isTaken_43 : decode cX1_isTaken 43 = .ok (.getfield 210, 3) := dk_180 0 210 (dk_at dksX1_isTaken_1 20 rfl rfl)
theorem dX1_isTaken_46 : decode cX1_isTaken 46 = .ok (.ireturn, 1) := dk_172 (dk_at dksX1_isTaken_1 23 rfl rfl)
abbrev cX1_gain : ByteArray := prog_1_method_22_code
def yX1_gain : MethodName := ⟨RX1, "gain", "(I)I"⟩
def dkwX1_gain_2 : List UInt8 := [182, 0, 214, 172]
abbrev dktX1_gain_2 : List UInt8 := dkwX1_gain_2 ++ []
def dkwX1_gain_1 : List UInt8 := [180, 0, 19, 180, 0, 85, 27, 185, 0, 91, 2, 0, 192, 0, 88, 42, 182, 0, 192, 180, 0, 196]
abbrev dktX1_gain_1 : List UInt8 := dkwX1_gain_1 ++ dktX1_gain_2
def dkwX1_gain_0 : List UInt8 := [27, 3, 42, 180, 0, 19, 180, 0, 85, 185, 0, 70, 1, 0, 4, 100, 184, 0, 46, 184, 0, 41, 42]
abbrev dktX1_gain_0 : List UInt8 := dkwX1_gain_0 ++ dktX1_gain_1
theorem dksX1_gain_0 : cX1_gain.data.toList.drop 0 = dktX1_gain_0 := by decide +kernel
theorem dksX1_gain_1 : cX1_gain.data.toList.drop 23 = dktX1_gain_1 := dk_seg dksX1_gain_0 23 rfl rfl
theorem dksX1_gain_2 : cX1_gain.data.toList.drop 45 = dktX1_gain_2 := dk_seg dksX1_gain_1 22 rfl rfl
theorem dX1_gain_0 : decode cX1_gain 0 = .ok (.iload_n 1, 1) := dk_27 (dk_at dksX1_gain_0 0 rfl rfl)
theorem dX1_gain_1 : decode cX1_gain 1 = .ok (.iconst 0, 1) := dk_3 (dk_at dksX1_gain_0 1 rfl rfl)
theorem dX1_gain_2 : decode cX1_gain 2 = .ok (.aload_n 0, 1) := dk_42 (dk_at dksX1_gain_0 2 rfl rfl)
theorem dX1_gain_3 : decode cX1_gain 3 = .ok (.getfield 19, 3) := dk_180 0 19 (dk_at dksX1_gain_0 3 rfl rfl)
theorem dX1_gain_6 : decode cX1_gain 6 = .ok (.getfield 85, 3) := dk_180 0 85 (dk_at dksX1_gain_0 6 rfl rfl)
theorem dX1_gain_9 : decode cX1_gain 9 = .ok (.invokeinterface 70 1, 5) := by decide +kernel
theorem dX1_gain_14 : decode cX1_gain 14 = .ok (.iconst 1, 1) := dk_4 (dk_at dksX1_gain_0 14 rfl rfl)
theorem dX1_gain_15 : decode cX1_gain 15 = .ok (.isub, 1) := dk_100 (dk_at dksX1_gain_0 15 rfl rfl)
theorem dX1_gain_16 : decode cX1_gain 16 = .ok (.invokestatic 46, 3) := dk_184 0 46 (dk_at dksX1_gain_0 16 rfl rfl)
theorem dX1_gain_19 : decode cX1_gain 19 = .ok (.invokestatic 41, 3) := dk_184 0 41 (dk_at dksX1_gain_0 19 rfl rfl)
theorem dX1_gain_22 : decode cX1_gain 22 = .ok (.aload_n 0, 1) := dk_42 (dk_at dksX1_gain_0 22 rfl rfl)
theorem dX1_gain_23 : decode cX1_gain 23 = .ok (.getfield 19, 3) := dk_180 0 19 (dk_at dksX1_gain_1 0 rfl rfl)
theorem dX1_gain_26 : decode cX1_gain 26 = .ok (.getfield 85, 3) := dk_180 0 85 (dk_at dksX1_gain_1 3 rfl rfl)
theorem dX1_gain_29 : decode cX1_gain 29 = .ok (.iload_n 1, 1) := dk_27 (dk_at dksX1_gain_1 6 rfl rfl)
theorem dX1_gain_30 : decode cX1_gain 30 = .ok (.invokeinterface 91 2, 5) := by decide +kernel
theorem dX1_gain_35 : decode cX1_gain 35 = .ok (.checkcast 88, 3) := dk_192 0 88 (dk_at dksX1_gain_1 12 rfl rfl)
theorem dX1_gain_38 : decode cX1_gain 38 = .ok (.aload_n 0, 1) := dk_42 (dk_at dksX1_gain_1 15 rfl rfl)
theorem dX1_gain_39 : decode cX1_gain 39 = .ok (.invokevirtual 192, 3) := dk_182 0 192 (dk_at dksX1_gain_1 16 rfl rfl)
theorem dX1_gain_42 : decode cX1_gain 42 = .ok (.getfield 196, 3) := dk_180 0 196 (dk_at dksX1_gain_1 19 rfl rfl)
theorem dX1_gain_45 : decode cX1_gain 45 = .ok (.invokevirtual 214, 3) := dk_182 0 214 (dk_at dksX1_gain_2 0 rfl rfl)
theorem dX1_gain_48 : decode cX1_gain 48 = .ok (.ireturn, 1) := dk_172 (dk_at dksX1_gain_2 3 rfl rfl)
abbrev cX1_worthAnew : ByteArray := prog_1_method_23_code
def yX1_worthAnew : MethodName := ⟨RX1, "worthAnew", "()I"⟩
def dkwX1_worthAnew_5 : List UInt8 := [153, 0, 10, 45, 182, 0, 238, 167, 0, 4, 3, 96, 60, 167, 255, 219, 27, 172]
abbrev dktX1_worthAnew_5 : List UInt8 := dkwX1_worthAnew_5 ++ []
def dkwX1_worthAnew_4 : List UInt8 := [185, 0, 222, 1, 0, 153, 0, 34, 44, 185, 0, 228, 1, 0, 192, 0, 88, 78, 27, 45, 180, 0, 210]
abbrev dktX1_worthAnew_4 : List UInt8 := dkwX1_worthAnew_4 ++ dktX1_worthAnew_5
def dkwX1_worthAnew_3 : List UInt8 := [104, 96, 60, 167, 255, 205, 42, 180, 0, 19, 180, 0, 85, 185, 0, 218, 1, 0, 77, 44]
abbrev dktX1_worthAnew_3 : List UInt8 := dkwX1_worthAnew_3 ++ dktX1_worthAnew_4
def dkwX1_worthAnew_2 : List UInt8 := [153, 0, 15, 45, 180, 0, 207, 45, 180, 0, 235, 104, 167, 0, 13, 45, 180, 0, 207, 116, 45, 180, 0, 235]
abbrev dktX1_worthAnew_2 : List UInt8 := dkwX1_worthAnew_2 ++ dktX1_worthAnew_3
def dkwX1_worthAnew_1 : List UInt8 := [185, 0, 222, 1, 0, 153, 0, 48, 44, 185, 0, 228, 1, 0, 192, 0, 76, 78, 27, 45, 180, 0, 232]
abbrev dktX1_worthAnew_1 : List UInt8 := dkwX1_worthAnew_1 ++ dktX1_worthAnew_2
def dkwX1_worthAnew_0 : List UInt8 := [42, 182, 0, 192, 87, 3, 60, 42, 180, 0, 19, 180, 0, 67, 185, 0, 218, 1, 0, 77, 44]
abbrev dktX1_worthAnew_0 : List UInt8 := dkwX1_worthAnew_0 ++ dktX1_worthAnew_1
theorem dksX1_worthAnew_0 : cX1_worthAnew.data.toList.drop 0 = dktX1_worthAnew_0 := by decide +kernel
theorem dksX1_worthAnew_1 : cX1_worthAnew.data.toList.drop 21 = dktX1_worthAnew_1 := dk_seg dksX1_worthAnew_0 21 rfl rfl
theorem dksX1_worthAnew_2 : cX1_worthAnew.data.toList.drop 44 = dktX1_worthAnew_2 := dk_seg dksX1_worthAnew_1 23 rfl rfl
theorem dksX1_worthAnew_3 : cX1_worthAnew.data.toList.drop 68 = dktX1_worthAnew_3 := dk_seg dksX1_worthAnew_2 24 rfl rfl
theorem dksX1_worthAnew_4 : cX1_worthAnew.data.toList.drop 88 = dktX1_worthAnew_4 := dk_seg dksX1_worthAnew_3 20 rfl rfl
theorem dksX1_worthAnew_5 : cX1_worthAnew.data.toList.drop 111 = dktX1_worthAnew_5 := dk_seg dksX1_worthAnew_4 23 rfl rfl
theorem dX1_worthAnew_0 : decode cX1_worthAnew 0 = .ok (.aload_n 0, 1) := dk_42 (dk_at dksX1_worthAnew_0 0 rfl rfl)
theorem dX1_worthAnew_1 : decode cX1_worthAnew 1 = .ok (.invokevirtual 192, 3) := dk_182 0 192 (dk_at dksX1_worthAnew_0 1 rfl rfl)
theorem dX1_worthAnew_4 : decode cX1_worthAnew 4 = .ok (.pop, 1) := dk_87 (dk_at dksX1_worthAnew_0 4 rfl rfl)
theorem dX1_worthAnew_5 : decode cX1_worthAnew 5 = .ok (.iconst 0, 1) := dk_3 (dk_at dksX1_worthAnew_0 5 rfl rfl)
theorem dX1_worthAnew_6 : decode cX1_worthAnew 6 = .ok (.istore_n 1, 1) := dk_60 (dk_at dksX1_worthAnew_0 6 rfl rfl)
theorem dX1_worthAnew_7 : decode cX1_worthAnew 7 = .ok (.aload_n 0, 1) := dk_42 (dk_at dksX1_worthAnew_0 7 rfl rfl)
theorem dX1_worthAnew_8 : decode cX1_worthAnew 8 = .ok (.getfield 19, 3) := dk_180 0 19 (dk_at dksX1_worthAnew_0 8 rfl rfl)
theorem dX1_worthAnew_11 : decode cX1_worthAnew 11 = .ok (.getfield 67, 3) := dk_180 0 67 (dk_at dksX1_worthAnew_0 11 rfl rfl)
theorem dX1_worthAnew_14 : decode cX1_worthAnew 14 = .ok (.invokeinterface 218 1, 5) := by decide +kernel
theorem dX1_worthAnew_19 : decode cX1_worthAnew 19 = .ok (.astore_n 2, 1) := dk_77 (dk_at dksX1_worthAnew_0 19 rfl rfl)
theorem dX1_worthAnew_20 : decode cX1_worthAnew 20 = .ok (.aload_n 2, 1) := dk_44 (dk_at dksX1_worthAnew_0 20 rfl rfl)
theorem dX1_worthAnew_21 : decode cX1_worthAnew 21 = .ok (.invokeinterface 222 1, 5) := by decide +kernel
theorem dX1_worthAnew_26 : decode cX1_worthAnew 26 = .ok (.ifCond .eq 48, 3) := dk_153 0 48 (dk_at dksX1_worthAnew_1 5 rfl rfl)
theorem dX1_worthAnew_29 : decode cX1_worthAnew 29 = .ok (.aload_n 2, 1) := dk_44 (dk_at dksX1_worthAnew_1 8 rfl rfl)
theorem dX1_worthAnew_30 : decode cX1_worthAnew 30 = .ok (.invokeinterface 228 1, 5) := by decide +kernel
theorem dX1_worthAnew_35 : decode cX1_worthAnew 35 = .ok (.checkcast 76, 3) := dk_192 0 76 (dk_at dksX1_worthAnew_1 14 rfl rfl)
theorem dX1_worthAnew_38 : decode cX1_worthAnew 38 = .ok (.astore_n 3, 1) := dk_78 (dk_at dksX1_worthAnew_1 17 rfl rfl)
theorem dX1_worthAnew_39 : decode cX1_worthAnew 39 = .ok (.iload_n 1, 1) := dk_27 (dk_at dksX1_worthAnew_1 18 rfl rfl)
theorem dX1_worthAnew_40 : decode cX1_worthAnew 40 = .ok (.aload_n 3, 1) := dk_45 (dk_at dksX1_worthAnew_1 19 rfl rfl)
theorem dX1_worthAnew_41 : decode cX1_worthAnew 41 = .ok (.getfield 232, 3) := dk_180 0 232 (dk_at dksX1_worthAnew_1 20 rfl rfl)
theorem dX1_worthAnew_44 : decode cX1_worthAnew 44 = .ok (.ifCond .eq 15, 3) := dk_153 0 15 (dk_at dksX1_worthAnew_2 0 rfl rfl)
theorem dX1_worthAnew_47 : decode cX1_worthAnew 47 = .ok (.aload_n 3, 1) := dk_45 (dk_at dksX1_worthAnew_2 3 rfl rfl)
theorem dX1_worthAnew_48 : decode cX1_worthAnew 48 = .ok (.getfield 207, 3) := dk_180 0 207 (dk_at dksX1_worthAnew_2 4 rfl rfl)
theorem dX1_worthAnew_51 : decode cX1_worthAnew 51 = .ok (.aload_n 3, 1) := dk_45 (dk_at dksX1_worthAnew_2 7 rfl rfl)
theorem dX1_worthAnew_52 : decode cX1_worthAnew 52 = .ok (.getfield 235, 3) := dk_180 0 235 (dk_at dksX1_worthAnew_2 8 rfl rfl)
theorem dX1_worthAnew_55 : decode cX1_worthAnew 55 = .ok (.imul, 1) := dk_104 (dk_at dksX1_worthAnew_2 11 rfl rfl)
theorem dX1_worthAnew_56 : decode cX1_worthAnew 56 = .ok (.goto 13, 3) := dk_167 0 13 (dk_at dksX1_worthAnew_2 12 rfl rfl)
theorem dX1_worthAnew_59 : decode cX1_worthAnew 59 = .ok (.aload_n 3, 1) := dk_45 (dk_at dksX1_worthAnew_2 15 rfl rfl)
theorem dX1_worthAnew_60 : decode cX1_worthAnew 60 = .ok (.getfield 207, 3) := dk_180 0 207 (dk_at dksX1_worthAnew_2 16 rfl rfl)
theorem dX1_worthAnew_63 : decode cX1_worthAnew 63 = .ok (.ineg, 1) := dk_116 (dk_at dksX1_worthAnew_2 19 rfl rfl)
theorem dX1_worthAnew_64 : decode cX1_worthAnew 64 = .ok (.aload_n 3, 1) := dk_45 (dk_at dksX1_worthAnew_2 20 rfl rfl)
theorem dX1_worthAnew_65 : decode cX1_worthAnew 65 = .ok (.getfield 235, 3) := dk_180 0 235 (dk_at dksX1_worthAnew_2 21 rfl rfl)
theorem dX1_worthAnew_68 : decode cX1_worthAnew 68 = .ok (.imul, 1) := dk_104 (dk_at dksX1_worthAnew_3 0 rfl rfl)
theorem dX1_worthAnew_69 : decode cX1_worthAnew 69 = .ok (.iadd, 1) := dk_96 (dk_at dksX1_worthAnew_3 1 rfl rfl)
theorem dX1_worthAnew_70 : decode cX1_worthAnew 70 = .ok (.istore_n 1, 1) := dk_60 (dk_at dksX1_worthAnew_3 2 rfl rfl)
theorem dX1_worthAnew_71 : decode cX1_worthAnew 71 = .ok (.goto (-51), 3) := dk_167 255 205 (dk_at dksX1_worthAnew_3 3 rfl rfl)
theorem dX1_worthAnew_74 : decode cX1_worthAnew 74 = .ok (.aload_n 0, 1) := dk_42 (dk_at dksX1_worthAnew_3 6 rfl rfl)
theorem dX1_worthAnew_75 : decode cX1_worthAnew 75 = .ok (.getfield 19, 3) := dk_180 0 19 (dk_at dksX1_worthAnew_3 7 rfl rfl)
theorem dX1_worthAnew_78 : decode cX1_worthAnew 78 = .ok (.getfield 85, 3) := dk_180 0 85 (dk_at dksX1_worthAnew_3 10 rfl rfl)
theorem dX1_worthAnew_81 : decode cX1_worthAnew 81 = .ok (.invokeinterface 218 1, 5) := by decide +kernel
theorem dX1_worthAnew_86 : decode cX1_worthAnew 86 = .ok (.astore_n 2, 1) := dk_77 (dk_at dksX1_worthAnew_3 18 rfl rfl)
theorem dX1_worthAnew_87 : decode cX1_worthAnew 87 = .ok (.aload_n 2, 1) := dk_44 (dk_at dksX1_worthAnew_3 19 rfl rfl)
theorem dX1_worthAnew_88 : decode cX1_worthAnew 88 = .ok (.invokeinterface 222 1, 5) := by decide +kernel
theorem dX1_worthAnew_93 : decode cX1_worthAnew 93 = .ok (.ifCond .eq 34, 3) := dk_153 0 34 (dk_at dksX1_worthAnew_4 5 rfl rfl)
theorem dX1_worthAnew_96 : decode cX1_worthAnew 96 = .ok (.aload_n 2, 1) := dk_44 (dk_at dksX1_worthAnew_4 8 rfl rfl)
theorem dX1_worthAnew_97 : decode cX1_worthAnew 97 = .ok (.invokeinterface 228 1, 5) := by decide +kernel
theorem dX1_worthAnew_102 : decode cX1_worthAnew 102 = .ok (.checkcast 88, 3) := dk_192 0 88 (dk_at dksX1_worthAnew_4 14 rfl rfl)
theorem dX1_worthAnew_105 : decode cX1_worthAnew 105 = .ok (.astore_n 3, 1) := dk_78 (dk_at dksX1_worthAnew_4 17 rfl rfl)
theorem dX1_worthAnew_106 : decode cX1_worthAnew 106 = .ok (.iload_n 1, 1) := dk_27 (dk_at dksX1_worthAnew_4 18 rfl rfl)
theorem dX1_worthAnew_107 : decode cX1_worthAnew 107 = .ok (.aload_n 3, 1) := dk_45 (dk_at dksX1_worthAnew_4 19 rfl rfl)
theorem dX1_worthAnew_108 : decode cX1_worthAnew 108 = .ok (.getfield 210, 3) := dk_180 0 210 (dk_at dksX1_worthAnew_4 20 rfl rfl)
theorem dX1_worthAnew_111 : decode cX1_worthAnew 111 = .ok (.ifCond .eq 10, 3) := dk_153 0 10 (dk_at dksX1_worthAnew_5 0 rfl rfl)
theorem dX1_worthAnew_114 : decode cX1_worthAnew 114 = .ok (.aload_n 3, 1) := dk_45 (dk_at dksX1_worthAnew_5 3 rfl rfl)
theorem dX1_worthAnew_115 : decode cX1_worthAnew 115 = .ok (.invokevirtual 238, 3) := dk_182 0 238 (dk_at dksX1_worthAnew_5 4 rfl rfl)
theorem dX1_worthAnew_118 : decode cX1_worthAnew 118 = .ok (.goto 4, 3) := dk_167 0 4 (dk_at dksX1_worthAnew_5 7 rfl rfl)
theorem dX1_worthAnew_121 : decode cX1_worthAnew 121 = .ok (.iconst 0, 1) := dk_3 (dk_at dksX1_worthAnew_5 10 rfl rfl)
theorem dX1_worthAnew_122 : decode cX1_worthAnew 122 = .ok (.iadd, 1) := dk_96 (dk_at dksX1_worthAnew_5 11 rfl rfl)
theorem dX1_worthAnew_123 : decode cX1_worthAnew 123 = .ok (.istore_n 1, 1) := dk_60 (dk_at dksX1_worthAnew_5 12 rfl rfl)
theorem dX1_worthAnew_124 : decode cX1_worthAnew 124 = .ok (.goto (-37), 3) := dk_167 255 219 (dk_at dksX1_worthAnew_5 13 rfl rfl)
theorem dX1_worthAnew_127 : decode cX1_worthAnew 127 = .ok (.iload_n 1, 1) := dk_27 (dk_at dksX1_worthAnew_5 16 rfl rfl)
theorem dX1_worthAnew_128 : decode cX1_worthAnew 128 = .ok (.ireturn, 1) := dk_172 (dk_at dksX1_worthAnew_5 17 rfl rfl)
abbrev cX1_given : ByteArray := prog_1_method_24_code
def yX1_given : MethodName := ⟨RX1, "given", "(I)I"⟩
def dkwX1_given_1 : List UInt8 := [182, 0, 192, 87, 42, 180, 0, 19, 180, 0, 102, 27, 185, 0, 91, 2, 0, 192, 0, 105, 180, 0, 240, 172]
abbrev dktX1_given_1 : List UInt8 := dkwX1_given_1 ++ []
def dkwX1_given_0 : List UInt8 := [27, 3, 42, 180, 0, 19, 180, 0, 102, 185, 0, 70, 1, 0, 4, 100, 184, 0, 46, 184, 0, 41, 42]
abbrev dktX1_given_0 : List UInt8 := dkwX1_given_0 ++ dktX1_given_1
theorem dksX1_given_0 : cX1_given.data.toList.drop 0 = dktX1_given_0 := by decide +kernel
theorem dksX1_given_1 : cX1_given.data.toList.drop 23 = dktX1_given_1 := dk_seg dksX1_given_0 23 rfl rfl
theorem dX1_given_0 : decode cX1_given 0 = .ok (.iload_n 1, 1) := dk_27 (dk_at dksX1_given_0 0 rfl rfl)
theorem dX1_given_1 : decode cX1_given 1 = .ok (.iconst 0, 1) := dk_3 (dk_at dksX1_given_0 1 rfl rfl)
theorem dX1_given_2 : decode cX1_given 2 = .ok (.aload_n 0, 1) := dk_42 (dk_at dksX1_given_0 2 rfl rfl)
theorem dX1_given_3 : decode cX1_given 3 = .ok (.getfield 19, 3) := dk_180 0 19 (dk_at dksX1_given_0 3 rfl rfl)
theorem dX1_given_6 : decode cX1_given 6 = .ok (.getfield 102, 3) := dk_180 0 102 (dk_at dksX1_given_0 6 rfl rfl)
theorem dX1_given_9 : decode cX1_given 9 = .ok (.invokeinterface 70 1, 5) := by decide +kernel
theorem dX1_given_14 : decode cX1_given 14 = .ok (.iconst 1, 1) := dk_4 (dk_at dksX1_given_0 14 rfl rfl)
theorem dX1_given_15 : decode cX1_given 15 = .ok (.isub, 1) := dk_100 (dk_at dksX1_given_0 15 rfl rfl)
theorem dX1_given_16 : decode cX1_given 16 = .ok (.invokestatic 46, 3) := dk_184 0 46 (dk_at dksX1_given_0 16 rfl rfl)
theorem dX1_given_19 : decode cX1_given 19 = .ok (.invokestatic 41, 3) := dk_184 0 41 (dk_at dksX1_given_0 19 rfl rfl)
theorem dX1_given_22 : decode cX1_given 22 = .ok (.aload_n 0, 1) := dk_42 (dk_at dksX1_given_0 22 rfl rfl)
theorem dX1_given_23 : decode cX1_given 23 = .ok (.invokevirtual 192, 3) := dk_182 0 192 (dk_at dksX1_given_1 0 rfl rfl)
theorem dX1_given_26 : decode cX1_given 26 = .ok (.pop, 1) := dk_87 (dk_at dksX1_given_1 3 rfl rfl)
theorem dX1_given_27 : decode cX1_given 27 = .ok (.aload_n 0, 1) := dk_42 (dk_at dksX1_given_1 4 rfl rfl)
theorem dX1_given_28 : decode cX1_given 28 = .ok (.getfield 19, 3) := dk_180 0 19 (dk_at dksX1_given_1 5 rfl rfl)
theorem dX1_given_31 : decode cX1_given 31 = .ok (.getfield 102, 3) := dk_180 0 102 (dk_at dksX1_given_1 8 rfl rfl)
theorem dX1_given_34 : decode cX1_given 34 = .ok (.iload_n 1, 1) := dk_27 (dk_at dksX1_given_1 11 rfl rfl)
theorem dX1_given_35 : decode cX1_given 35 = .ok (.invokeinterface 91 2, 5) := by decide +kernel
theorem dX1_given_40 : decode cX1_given 40 = .ok (.checkcast 105, 3) := dk_192 0 105 (dk_at dksX1_given_1 17 rfl rfl)
theorem dX1_given_43 : decode cX1_given 43 = .ok (.getfield 240, 3) := dk_180 0 240 (dk_at dksX1_given_1 20 rfl rfl)
theorem dX1_given_46 : decode cX1_given 46 = .ok (.ireturn, 1) := dk_172 (dk_at dksX1_given_1 23 rfl rfl)
abbrev cX1_left : ByteArray := prog_1_method_25_code
def yX1_left : MethodName := ⟨RX1, "left", "(I)I"⟩
def dkwX1_left_1 : List UInt8 := [180, 0, 19, 180, 0, 139, 27, 185, 0, 91, 2, 0, 192, 0, 142, 180, 0, 149, 172]
abbrev dktX1_left_1 : List UInt8 := dkwX1_left_1 ++ []
def dkwX1_left_0 : List UInt8 := [27, 3, 42, 180, 0, 19, 180, 0, 139, 185, 0, 70, 1, 0, 4, 100, 184, 0, 46, 184, 0, 41, 42]
abbrev dktX1_left_0 : List UInt8 := dkwX1_left_0 ++ dktX1_left_1
theorem dksX1_left_0 : cX1_left.data.toList.drop 0 = dktX1_left_0 := by decide +kernel
theorem dksX1_left_1 : cX1_left.data.toList.drop 23 = dktX1_left_1 := dk_seg dksX1_left_0 23 rfl rfl
theorem dX1_left_0 : decode cX1_left 0 = .ok (.iload_n 1, 1) := dk_27 (dk_at dksX1_left_0 0 rfl rfl)
theorem dX1_left_1 : decode cX1_left 1 = .ok (.iconst 0, 1) := dk_3 (dk_at dksX1_left_0 1 rfl rfl)
theorem dX1_left_2 : decode cX1_left 2 = .ok (.aload_n 0, 1) := dk_42 (dk_at dksX1_left_0 2 rfl rfl)
theorem dX1_left_3 : decode cX1_left 3 = .ok (.getfield 19, 3) := dk_180 0 19 (dk_at dksX1_left_0 3 rfl rfl)
theorem dX1_left_6 : decode cX1_left 6 = .ok (.getfield 139, 3) := dk_180 0 139 (dk_at dksX1_left_0 6 rfl rfl)
theorem dX1_left_9 : decode cX1_left 9 = .ok (.invokeinterface 70 1, 5) := by decide +kernel
theorem dX1_left_14 : decode cX1_left 14 = .ok (.iconst 1, 1) := dk_4 (dk_at dksX1_left_0 14 rfl rfl)
theorem dX1_left_15 : decode cX1_left 15 = .ok (.isub, 1) := dk_100 (dk_at dksX1_left_0 15 rfl rfl)
theorem dX1_left_16 : decode cX1_left 16 = .ok (.invokestatic 46, 3) := dk_184 0 46 (dk_at dksX1_left_0 16 rfl rfl)
theorem dX1_left_19 : decode cX1_left 19 = .ok (.invokestatic 41, 3) := dk_184 0 41 (dk_at dksX1_left_0 19 rfl rfl)
theorem dX1_left_22 : decode cX1_left 22 = .ok (.aload_n 0, 1) := dk_42 (dk_at dksX1_left_0 22 rfl rfl)
theorem dX1_left_23 : decode cX1_left 23 = .ok (.getfield 19, 3) := dk_180 0 19 (dk_at dksX1_left_1 0 rfl rfl)
theorem dX1_left_26 : decode cX1_left 26 = .ok (.getfield 139, 3) := dk_180 0 139 (dk_at dksX1_left_1 3 rfl rfl)
theorem dX1_left_29 : decode cX1_left 29 = .ok (.iload_n 1, 1) := dk_27 (dk_at dksX1_left_1 6 rfl rfl)
theorem dX1_left_30 : decode cX1_left 30 = .ok (.invokeinterface 91 2, 5) := by decide +kernel
theorem dX1_left_35 : decode cX1_left 35 = .ok (.checkcast 142, 3) := dk_192 0 142 (dk_at dksX1_left_1 12 rfl rfl)
theorem dX1_left_38 : decode cX1_left 38 = .ok (.getfield 149, 3) := dk_180 0 149 (dk_at dksX1_left_1 15 rfl rfl)
theorem dX1_left_41 : decode cX1_left 41 = .ok (.ireturn, 1) := dk_172 (dk_at dksX1_left_1 18 rfl rfl)
abbrev cX1_plan : ByteArray := prog_1_method_26_code
def yX1_plan : MethodName := ⟨RX1, "plan", "(IIII)I"⟩
def dkwX1_plan_3 : List UInt8 := [185, 0, 91, 2, 0, 192, 0, 16, 58, 5, 25, 5, 28, 29, 21, 4, 182, 0, 243, 172]
abbrev dktX1_plan_3 : List UInt8 := dkwX1_plan_3 ++ []
def dkwX1_plan_2 : List UInt8 := [42, 180, 0, 10, 185, 0, 70, 1, 0, 160, 0, 10, 42, 180, 0, 19, 167, 0, 16, 42, 180, 0, 10, 27]
abbrev dktX1_plan_2 : List UInt8 := dkwX1_plan_2 ++ dktX1_plan_3
def dkwX1_plan_1 : List UInt8 := [29, 184, 0, 61, 153, 0, 15, 21, 4, 184, 0, 64, 153, 0, 7, 4, 167, 0, 4, 3, 184, 0, 41, 27]
abbrev dktX1_plan_1 : List UInt8 := dkwX1_plan_1 ++ dktX1_plan_2
def dkwX1_plan_0 : List UInt8 := [27, 3, 42, 180, 0, 10, 185, 0, 70, 1, 0, 184, 0, 46, 153, 0, 29, 28, 184, 0, 37, 153, 0, 22]
abbrev dktX1_plan_0 : List UInt8 := dkwX1_plan_0 ++ dktX1_plan_1
theorem dksX1_plan_0 : cX1_plan.data.toList.drop 0 = dktX1_plan_0 := by decide +kernel
theorem dksX1_plan_1 : cX1_plan.data.toList.drop 24 = dktX1_plan_1 := dk_seg dksX1_plan_0 24 rfl rfl
theorem dksX1_plan_2 : cX1_plan.data.toList.drop 48 = dktX1_plan_2 := dk_seg dksX1_plan_1 24 rfl rfl
theorem dksX1_plan_3 : cX1_plan.data.toList.drop 72 = dktX1_plan_3 := dk_seg dksX1_plan_2 24 rfl rfl
theorem dX1_plan_0 : decode cX1_plan 0 = .ok (.iload_n 1, 1) := dk_27 (dk_at dksX1_plan_0 0 rfl rfl)
theorem dX1_plan_1 : decode cX1_plan 1 = .ok (.iconst 0, 1) := dk_3 (dk_at dksX1_plan_0 1 rfl rfl)
theorem dX1_plan_2 : decode cX1_plan 2 = .ok (.aload_n 0, 1) := dk_42 (dk_at dksX1_plan_0 2 rfl rfl)
theorem dX1_plan_3 : decode cX1_plan 3 = .ok (.getfield 10, 3) := dk_180 0 10 (dk_at dksX1_plan_0 3 rfl rfl)
theorem dX1_plan_6 : decode cX1_plan 6 = .ok (.invokeinterface 70 1, 5) := by decide +kernel
theorem dX1_plan_11 : decode cX1_plan 11 = .ok (.invokestatic 46, 3) := dk_184 0 46 (dk_at dksX1_plan_0 11 rfl rfl)
theorem dX1_plan_14 : decode cX1_plan 14 = .ok (.ifCond .eq 29, 3) := dk_153 0 29 (dk_at dksX1_plan_0 14 rfl rfl)
theorem dX1_plan_17 : decode cX1_plan 17 = .ok (.iload_n 2, 1) := dk_28 (dk_at dksX1_plan_0 17 rfl rfl)
theorem dX1_plan_18 : decode cX1_plan 18 = .ok (.invokestatic 37, 3) := dk_184 0 37 (dk_at dksX1_plan_0 18 rfl rfl)
theorem dX1_plan_21 : decode cX1_plan 21 = .ok (.ifCond .eq 22, 3) := dk_153 0 22 (dk_at dksX1_plan_0 21 rfl rfl)
theorem dX1_plan_24 : decode cX1_plan 24 = .ok (.iload_n 3, 1) := dk_29 (dk_at dksX1_plan_1 0 rfl rfl)
theorem dX1_plan_25 : decode cX1_plan 25 = .ok (.invokestatic 61, 3) := dk_184 0 61 (dk_at dksX1_plan_1 1 rfl rfl)
theorem dX1_plan_28 : decode cX1_plan 28 = .ok (.ifCond .eq 15, 3) := dk_153 0 15 (dk_at dksX1_plan_1 4 rfl rfl)
theorem dX1_plan_31 : decode cX1_plan 31 = .ok (.iload 4, 2) := dk_21 4 (dk_at dksX1_plan_1 7 rfl rfl)
theorem dX1_plan_33 : decode cX1_plan 33 = .ok (.invokestatic 64, 3) := dk_184 0 64 (dk_at dksX1_plan_1 9 rfl rfl)
theorem dX1_plan_36 : decode cX1_plan 36 = .ok (.ifCond .eq 7, 3) := dk_153 0 7 (dk_at dksX1_plan_1 12 rfl rfl)
theorem dX1_plan_39 : decode cX1_plan 39 = .ok (.iconst 1, 1) := dk_4 (dk_at dksX1_plan_1 15 rfl rfl)
theorem dX1_plan_40 : decode cX1_plan 40 = .ok (.goto 4, 3) := dk_167 0 4 (dk_at dksX1_plan_1 16 rfl rfl)
theorem dX1_plan_43 : decode cX1_plan 43 = .ok (.iconst 0, 1) := dk_3 (dk_at dksX1_plan_1 19 rfl rfl)
theorem dX1_plan_44 : decode cX1_plan 44 = .ok (.invokestatic 41, 3) := dk_184 0 41 (dk_at dksX1_plan_1 20 rfl rfl)
theorem dX1_plan_47 : decode cX1_plan 47 = .ok (.iload_n 1, 1) := dk_27 (dk_at dksX1_plan_1 23 rfl rfl)
theorem dX1_plan_48 : decode cX1_plan 48 = .ok (.aload_n 0, 1) := dk_42 (dk_at dksX1_plan_2 0 rfl rfl)
theorem dX1_plan_49 : decode cX1_plan 49 = .ok (.getfield 10, 3) := dk_180 0 10 (dk_at dksX1_plan_2 1 rfl rfl)
theorem dX1_plan_52 : decode cX1_plan 52 = .ok (.invokeinterface 70 1, 5) := by decide +kernel
theorem dX1_plan_57 : decode cX1_plan 57 = .ok (.if_icmp .ne 10, 3) := dk_160 0 10 (dk_at dksX1_plan_2 9 rfl rfl)
theorem dX1_plan_60 : decode cX1_plan 60 = .ok (.aload_n 0, 1) := dk_42 (dk_at dksX1_plan_2 12 rfl rfl)
theorem dX1_plan_61 : decode cX1_plan 61 = .ok (.getfield 19, 3) := dk_180 0 19 (dk_at dksX1_plan_2 13 rfl rfl)
theorem dX1_plan_64 : decode cX1_plan 64 = .ok (.goto 16, 3) := dk_167 0 16 (dk_at dksX1_plan_2 16 rfl rfl)
theorem dX1_plan_67 : decode cX1_plan 67 = .ok (.aload_n 0, 1) := dk_42 (dk_at dksX1_plan_2 19 rfl rfl)
theorem dX1_plan_68 : decode cX1_plan 68 = .ok (.getfield 10, 3) := dk_180 0 10 (dk_at dksX1_plan_2 20 rfl rfl)
theorem dX1_plan_71 : decode cX1_plan 71 = .ok (.iload_n 1, 1) := dk_27 (dk_at dksX1_plan_2 23 rfl rfl)
theorem dX1_plan_72 : decode cX1_plan 72 = .ok (.invokeinterface 91 2, 5) := by decide +kernel
theorem dX1_plan_77 : decode cX1_plan 77 = .ok (.checkcast 16, 3) := dk_192 0 16 (dk_at dksX1_plan_3 5 rfl rfl)
theorem dX1_plan_80 : decode cX1_plan 80 = .ok (.astore 5, 2) := dk_58 5 (dk_at dksX1_plan_3 8 rfl rfl)
theorem dX1_plan_82 : decode cX1_plan 82 = .ok (.aload 5, 2) := dk_25 5 (dk_at dksX1_plan_3 10 rfl rfl)
theorem dX1_plan_84 : decode cX1_plan 84 = .ok (.iload_n 2, 1) := dk_28 (dk_at dksX1_plan_3 12 rfl rfl)
theorem dX1_plan_85 : decode cX1_plan 85 = .ok (.iload_n 3, 1) := dk_29 (dk_at dksX1_plan_3 13 rfl rfl)
theorem dX1_plan_86 : decode cX1_plan 86 = .ok (.iload 4, 2) := dk_21 4 (dk_at dksX1_plan_3 14 rfl rfl)
theorem dX1_plan_88 : decode cX1_plan 88 = .ok (.invokevirtual 243, 3) := dk_182 0 243 (dk_at dksX1_plan_3 16 rfl rfl)
theorem dX1_plan_91 : decode cX1_plan 91 = .ok (.ireturn, 1) := dk_172 (dk_at dksX1_plan_3 19 rfl rfl)
abbrev cX1_gap : ByteArray := prog_1_method_27_code
def yX1_gap : MethodName := ⟨RX1, "gap", "(II)I"⟩
def dkwX1_gap_0 : List UInt8 := [42, 27, 182, 0, 160, 78, 28, 184, 0, 64, 184, 0, 41, 45, 28, 182, 0, 246, 172]
abbrev dktX1_gap_0 : List UInt8 := dkwX1_gap_0 ++ []
theorem dksX1_gap_0 : cX1_gap.data.toList.drop 0 = dktX1_gap_0 := by decide +kernel
theorem dX1_gap_0 : decode cX1_gap 0 = .ok (.aload_n 0, 1) := dk_42 (dk_at dksX1_gap_0 0 rfl rfl)
theorem dX1_gap_1 : decode cX1_gap 1 = .ok (.iload_n 1, 1) := dk_27 (dk_at dksX1_gap_0 1 rfl rfl)
theorem dX1_gap_2 : decode cX1_gap 2 = .ok (.invokevirtual 160, 3) := dk_182 0 160 (dk_at dksX1_gap_0 2 rfl rfl)
theorem dX1_gap_5 : decode cX1_gap 5 = .ok (.astore_n 3, 1) := dk_78 (dk_at dksX1_gap_0 5 rfl rfl)
theorem dX1_gap_6 : decode cX1_gap 6 = .ok (.iload_n 2, 1) := dk_28 (dk_at dksX1_gap_0 6 rfl rfl)
theorem dX1_gap_7 : decode cX1_gap 7 = .ok (.invokestatic 64, 3) := dk_184 0 64 (dk_at dksX1_gap_0 7 rfl rfl)
theorem dX1_gap_10 : decode cX1_gap 10 = .ok (.invokestatic 41, 3) := dk_184 0 41 (dk_at dksX1_gap_0 10 rfl rfl)
theorem dX1_gap_13 : decode cX1_gap 13 = .ok (.aload_n 3, 1) := dk_45 (dk_at dksX1_gap_0 13 rfl rfl)
theorem dX1_gap_14 : decode cX1_gap 14 = .ok (.iload_n 2, 1) := dk_28 (dk_at dksX1_gap_0 14 rfl rfl)
theorem dX1_gap_15 : decode cX1_gap 15 = .ok (.invokevirtual 246, 3) := dk_182 0 246 (dk_at dksX1_gap_0 15 rfl rfl)
theorem dX1_gap_18 : decode cX1_gap 18 = .ok (.ireturn, 1) := dk_172 (dk_at dksX1_gap_0 18 rfl rfl)
abbrev cX1_gapPrice : ByteArray := prog_1_method_28_code
def yX1_gapPrice : MethodName := ⟨RX1, "gapPrice", "(II)I"⟩
def dkwX1_gapPrice_0 : List UInt8 := [42, 27, 182, 0, 160, 78, 28, 184, 0, 64, 184, 0, 41, 45, 28, 184, 0, 249, 172]
abbrev dktX1_gapPrice_0 : List UInt8 := dkwX1_gapPrice_0 ++ []
theorem dksX1_gapPrice_0 : cX1_gapPrice.data.toList.drop 0 = dktX1_gapPrice_0 := by decide +kernel
theorem dX1_gapPrice_0 : decode cX1_gapPrice 0 = .ok (.aload_n 0, 1) := dk_42 (dk_at dksX1_gapPrice_0 0 rfl rfl)
theorem dX1_gapPrice_1 : decode cX1_gapPrice 1 = .ok (.iload_n 1, 1) := dk_27 (dk_at dksX1_gapPrice_0 1 rfl rfl)
theorem dX1_gapPrice_2 : decode cX1_gapPrice 2 = .ok (.invokevirtual 160, 3) := dk_182 0 160 (dk_at dksX1_gapPrice_0 2 rfl rfl)
theorem dX1_gapPrice_5 : decode cX1_gapPrice 5 = .ok (.astore_n 3, 1) := dk_78 (dk_at dksX1_gapPrice_0 5 rfl rfl)
theorem dX1_gapPrice_6 : decode cX1_gapPrice 6 = .ok (.iload_n 2, 1) := dk_28 (dk_at dksX1_gapPrice_0 6 rfl rfl)
theorem dX1_gapPrice_7 : decode cX1_gapPrice 7 = .ok (.invokestatic 64, 3) := dk_184 0 64 (dk_at dksX1_gapPrice_0 7 rfl rfl)
theorem dX1_gapPrice_10 : decode cX1_gapPrice 10 = .ok (.invokestatic 41, 3) := dk_184 0 41 (dk_at dksX1_gapPrice_0 10 rfl rfl)
theorem dX1_gapPrice_13 : decode cX1_gapPrice 13 = .ok (.aload_n 3, 1) := dk_45 (dk_at dksX1_gapPrice_0 13 rfl rfl)
theorem dX1_gapPrice_14 : decode cX1_gapPrice 14 = .ok (.iload_n 2, 1) := dk_28 (dk_at dksX1_gapPrice_0 14 rfl rfl)
theorem dX1_gapPrice_15 : decode cX1_gapPrice 15 = .ok (.invokestatic 249, 3) := dk_184 0 249 (dk_at dksX1_gapPrice_0 15 rfl rfl)
theorem dX1_gapPrice_18 : decode cX1_gapPrice 18 = .ok (.ireturn, 1) := dk_172 (dk_at dksX1_gapPrice_0 18 rfl rfl)
abbrev cX1_bill : ByteArray := prog_1_method_29_code
def yX1_bill : MethodName := ⟨RX1, "bill", "(II)I"⟩
def dkwX1_bill_0 : List UInt8 := [42, 27, 182, 0, 160, 78, 28, 184, 0, 37, 184, 0, 41, 45, 28, 184, 0, 179, 172]
abbrev dktX1_bill_0 : List UInt8 := dkwX1_bill_0 ++ []
theorem dksX1_bill_0 : cX1_bill.data.toList.drop 0 = dktX1_bill_0 := by decide +kernel
theorem dX1_bill_0 : decode cX1_bill 0 = .ok (.aload_n 0, 1) := dk_42 (dk_at dksX1_bill_0 0 rfl rfl)
theorem dX1_bill_1 : decode cX1_bill 1 = .ok (.iload_n 1, 1) := dk_27 (dk_at dksX1_bill_0 1 rfl rfl)
theorem dX1_bill_2 : decode cX1_bill 2 = .ok (.invokevirtual 160, 3) := dk_182 0 160 (dk_at dksX1_bill_0 2 rfl rfl)
theorem dX1_bill_5 : decode cX1_bill 5 = .ok (.astore_n 3, 1) := dk_78 (dk_at dksX1_bill_0 5 rfl rfl)
theorem dX1_bill_6 : decode cX1_bill 6 = .ok (.iload_n 2, 1) := dk_28 (dk_at dksX1_bill_0 6 rfl rfl)
theorem dX1_bill_7 : decode cX1_bill 7 = .ok (.invokestatic 37, 3) := dk_184 0 37 (dk_at dksX1_bill_0 7 rfl rfl)
theorem dX1_bill_10 : decode cX1_bill 10 = .ok (.invokestatic 41, 3) := dk_184 0 41 (dk_at dksX1_bill_0 10 rfl rfl)
theorem dX1_bill_13 : decode cX1_bill 13 = .ok (.aload_n 3, 1) := dk_45 (dk_at dksX1_bill_0 13 rfl rfl)
theorem dX1_bill_14 : decode cX1_bill 14 = .ok (.iload_n 2, 1) := dk_28 (dk_at dksX1_bill_0 14 rfl rfl)
theorem dX1_bill_15 : decode cX1_bill 15 = .ok (.invokestatic 179, 3) := dk_184 0 179 (dk_at dksX1_bill_0 15 rfl rfl)
theorem dX1_bill_18 : decode cX1_bill 18 = .ok (.ireturn, 1) := dk_172 (dk_at dksX1_bill_0 18 rfl rfl)
abbrev cX1_settled : ByteArray := prog_1_method_30_code
def yX1_settled : MethodName := ⟨RX1, "settled", "(II)I"⟩
def dkwX1_settled_0 : List UInt8 := [42, 27, 182, 0, 160, 78, 28, 184, 0, 37, 184, 0, 41, 45, 180, 0, 183, 28, 46, 172]
abbrev dktX1_settled_0 : List UInt8 := dkwX1_settled_0 ++ []
theorem dksX1_settled_0 : cX1_settled.data.toList.drop 0 = dktX1_settled_0 := by decide +kernel
theorem dX1_settled_0 : decode cX1_settled 0 = .ok (.aload_n 0, 1) := dk_42 (dk_at dksX1_settled_0 0 rfl rfl)
theorem dX1_settled_1 : decode cX1_settled 1 = .ok (.iload_n 1, 1) := dk_27 (dk_at dksX1_settled_0 1 rfl rfl)
theorem dX1_settled_2 : decode cX1_settled 2 = .ok (.invokevirtual 160, 3) := dk_182 0 160 (dk_at dksX1_settled_0 2 rfl rfl)
theorem dX1_settled_5 : decode cX1_settled 5 = .ok (.astore_n 3, 1) := dk_78 (dk_at dksX1_settled_0 5 rfl rfl)
theorem dX1_settled_6 : decode cX1_settled 6 = .ok (.iload_n 2, 1) := dk_28 (dk_at dksX1_settled_0 6 rfl rfl)
theorem dX1_settled_7 : decode cX1_settled 7 = .ok (.invokestatic 37, 3) := dk_184 0 37 (dk_at dksX1_settled_0 7 rfl rfl)
theorem dX1_settled_10 : decode cX1_settled 10 = .ok (.invokestatic 41, 3) := dk_184 0 41 (dk_at dksX1_settled_0 10 rfl rfl)
theorem dX1_settled_13 : decode cX1_settled 13 = .ok (.aload_n 3, 1) := dk_45 (dk_at dksX1_settled_0 13 rfl rfl)
theorem dX1_settled_14 : decode cX1_settled 14 = .ok (.getfield 183, 3) := dk_180 0 183 (dk_at dksX1_settled_0 14 rfl rfl)
theorem dX1_settled_17 : decode cX1_settled 17 = .ok (.iload_n 2, 1) := dk_28 (dk_at dksX1_settled_0 17 rfl rfl)
theorem dX1_settled_18 : decode cX1_settled 18 = .ok (.iaload, 1) := dk_46 (dk_at dksX1_settled_0 18 rfl rfl)
theorem dX1_settled_19 : decode cX1_settled 19 = .ok (.ireturn, 1) := dk_172 (dk_at dksX1_settled_0 19 rfl rfl)
abbrev cX1_account : ByteArray := prog_1_method_31_code
def yX1_account : MethodName := ⟨RX1, "account", "(I)I"⟩
def dkwX1_account_0 : List UInt8 := [27, 184, 0, 37, 184, 0, 41, 42, 180, 0, 27, 27, 46, 172]
abbrev dktX1_account_0 : List UInt8 := dkwX1_account_0 ++ []
theorem dksX1_account_0 : cX1_account.data.toList.drop 0 = dktX1_account_0 := by decide +kernel
theorem dX1_account_0 : decode cX1_account 0 = .ok (.iload_n 1, 1) := dk_27 (dk_at dksX1_account_0 0 rfl rfl)
theorem dX1_account_1 : decode cX1_account 1 = .ok (.invokestatic 37, 3) := dk_184 0 37 (dk_at dksX1_account_0 1 rfl rfl)
theorem dX1_account_4 : decode cX1_account 4 = .ok (.invokestatic 41, 3) := dk_184 0 41 (dk_at dksX1_account_0 4 rfl rfl)
theorem dX1_account_7 : decode cX1_account 7 = .ok (.aload_n 0, 1) := dk_42 (dk_at dksX1_account_0 7 rfl rfl)
theorem dX1_account_8 : decode cX1_account 8 = .ok (.getfield 27, 3) := dk_180 0 27 (dk_at dksX1_account_0 8 rfl rfl)
theorem dX1_account_11 : decode cX1_account 11 = .ok (.iload_n 1, 1) := dk_27 (dk_at dksX1_account_0 11 rfl rfl)
theorem dX1_account_12 : decode cX1_account 12 = .ok (.iaload, 1) := dk_46 (dk_at dksX1_account_0 12 rfl rfl)
theorem dX1_account_13 : decode cX1_account 13 = .ok (.ireturn, 1) := dk_172 (dk_at dksX1_account_0 13 rfl rfl)
abbrev cX1_hasFailed : ByteArray := prog_1_method_32_code
def yX1_hasFailed : MethodName := ⟨RX1, "hasFailed", "(I)Z"⟩
def dkwX1_hasFailed_0 : List UInt8 := [27, 184, 0, 37, 184, 0, 41, 42, 180, 0, 33, 27, 51, 172]
abbrev dktX1_hasFailed_0 : List UInt8 := dkwX1_hasFailed_0 ++ []
theorem dksX1_hasFailed_0 : cX1_hasFailed.data.toList.drop 0 = dktX1_hasFailed_0 := by decide +kernel
theorem dX1_hasFailed_0 : decode cX1_hasFailed 0 = .ok (.iload_n 1, 1) := dk_27 (dk_at dksX1_hasFailed_0 0 rfl rfl)
theorem dX1_hasFailed_1 : decode cX1_hasFailed 1 = .ok (.invokestatic 37, 3) := dk_184 0 37 (dk_at dksX1_hasFailed_0 1 rfl rfl)
theorem dX1_hasFailed_4 : decode cX1_hasFailed 4 = .ok (.invokestatic 41, 3) := dk_184 0 41 (dk_at dksX1_hasFailed_0 4 rfl rfl)
theorem dX1_hasFailed_7 : decode cX1_hasFailed 7 = .ok (.aload_n 0, 1) := dk_42 (dk_at dksX1_hasFailed_0 7 rfl rfl)
theorem dX1_hasFailed_8 : decode cX1_hasFailed 8 = .ok (.getfield 33, 3) := dk_180 0 33 (dk_at dksX1_hasFailed_0 8 rfl rfl)
theorem dX1_hasFailed_11 : decode cX1_hasFailed 11 = .ok (.iload_n 1, 1) := dk_27 (dk_at dksX1_hasFailed_0 11 rfl rfl)
theorem dX1_hasFailed_12 : decode cX1_hasFailed 12 = .ok (.baload, 1) := dk_51 (dk_at dksX1_hasFailed_0 12 rfl rfl)
theorem dX1_hasFailed_13 : decode cX1_hasFailed 13 = .ok (.ireturn, 1) := dk_172 (dk_at dksX1_hasFailed_0 13 rfl rfl)
theorem q55 : (Jvm.Cond.initialized "GridMarket") ∈ lw_all := lw_g (lw_at lw_m1 1 rfl) rfl
theorem q93 : (Jvm.Cond.instantiable "GridMarket" (7 : Nat)) ∈ lw_all := lw_g (lw_at lw_m1 39 rfl) rfl
theorem q95 : (Jvm.Cond.instanceMethod ({ cls := "GridMarket", name := "<init>", desc := "()V" } : Jvm.MethodName)) ∈ lw_all := lw_g (lw_at lw_m1 41 rfl) rfl
theorem q96 : (Jvm.Cond.code ({ cls := "GridMarket", name := "<init>", desc := "()V" } : Jvm.MethodName) prog_1_method_1_code (1 : Nat) (Option.none : Option Jvm.ClassFile.FieldType)) ∈ lw_all := lw_g (lw_at lw_m1 42 rfl) rfl
theorem q97 : (Jvm.Cond.methodLink "GridMarket" (1 : Nat) ({ cls := "java/lang/Object", name := "<init>", desc := "()V" } : Jvm.MethodName)) ∈ lw_all := lw_g (lw_at lw_m1 43 rfl) rfl
theorem q100 : (Jvm.Cond.classLink "GridMarket" (7 : Nat) "java/util/ArrayList") ∈ lw_all := lw_g (lw_at lw_m1 46 rfl) rfl
theorem q102 : (Jvm.Cond.methodLink "GridMarket" (9 : Nat) ({ cls := "java/util/ArrayList", name := "<init>", desc := "()V" } : Jvm.MethodName)) ∈ lw_all := lw_g (lw_at lw_m1 48 rfl) rfl
theorem q129 : (Jvm.Cond.classLink "GridMarket" (16 : Nat) "GridMarket$Day") ∈ lw_all := lw_g (lw_at lw_m1 75 rfl) rfl
theorem q131 : (Jvm.Cond.methodLinkNest "GridMarket" (18 : Nat) ({ cls := "GridMarket$Day", name := "<init>", desc := "()V" } : Jvm.MethodName) "GridMarket") ∈ lw_tbl := lw_at lw_m1 77 rfl
theorem q144 : (Jvm.Cond.fieldLinkNest "GridMarket" (67 : Nat) "GridMarket$Day" "bids" "Ljava/util/List;" "GridMarket") ∈ lw_tbl := lw_at lw_m1 90 rfl
theorem q146 : (Jvm.Cond.fieldLinkNest "GridMarket" (85 : Nat) "GridMarket$Day" "blocks" "Ljava/util/List;" "GridMarket") ∈ lw_tbl := lw_at lw_m1 92 rfl
theorem q148 : (Jvm.Cond.fieldLinkNest "GridMarket" (102 : Nat) "GridMarket$Day" "asks" "Ljava/util/List;" "GridMarket") ∈ lw_tbl := lw_at lw_m1 94 rfl
theorem q150 : (Jvm.Cond.fieldLinkNest "GridMarket" (139 : Nat) "GridMarket$Day" "offers" "Ljava/util/List;" "GridMarket") ∈ lw_tbl := lw_at lw_m1 96 rfl
theorem q152 : (Jvm.Cond.fieldLinkNest "GridMarket" (380 : Nat) "GridMarket$Day" "trades" "Ljava/util/List;" "GridMarket") ∈ lw_tbl := lw_at lw_m1 98 rfl
theorem q154 : (Jvm.Cond.fieldLinkNest "GridMarket" (152 : Nat) "GridMarket$Day" "aids" "Ljava/util/List;" "GridMarket") ∈ lw_tbl := lw_at lw_m1 100 rfl
theorem q155 : (Jvm.Cond.fieldLinkNest "GridMarket" (57 : Nat) "GridMarket$Day" "result" "LGridMarket$Result;" "GridMarket") ∈ lw_tbl := lw_at lw_m1 101 rfl
theorem q157 : (Jvm.Cond.fieldLinkNest "GridMarket" (164 : Nat) "GridMarket$Day" "readings" "[[[I" "GridMarket") ∈ lw_tbl := lw_at lw_m1 103 rfl
theorem q159 : (Jvm.Cond.fieldLinkNest "GridMarket" (168 : Nat) "GridMarket$Day" "isRead" "[[[Z" "GridMarket") ∈ lw_tbl := lw_at lw_m1 105 rfl
theorem q161 : (Jvm.Cond.fieldLinkNest "GridMarket" (183 : Nat) "GridMarket$Day" "settled" "[I" "GridMarket") ∈ lw_tbl := lw_at lw_m1 107 rfl
theorem q162 : (Jvm.Cond.fieldLinkNest "GridMarket" (176 : Nat) "GridMarket$Day" "runs" "I" "GridMarket") ∈ lw_tbl := lw_at lw_m1 108 rfl
theorem q188 : (Jvm.Cond.fieldLink "GridMarket" (10 : Nat) "GridMarket" "days" "Ljava/util/List;") ∈ lw_all := lw_g (lw_at lw_m1 134 rfl) rfl
theorem q189 : (Jvm.Cond.fieldLink "GridMarket" (19 : Nat) "GridMarket" "today" "LGridMarket$Day;") ∈ lw_all := lw_g (lw_at lw_m1 135 rfl) rfl
theorem q190 : (Jvm.Cond.fieldLink "GridMarket" (23 : Nat) "GridMarket" "limits" "[I") ∈ lw_all := lw_g (lw_at lw_m1 136 rfl) rfl
theorem q191 : (Jvm.Cond.fieldLink "GridMarket" (27 : Nat) "GridMarket" "accounts" "[I") ∈ lw_all := lw_g (lw_at lw_m1 137 rfl) rfl
theorem q192 : (Jvm.Cond.fieldLink "GridMarket" (30 : Nat) "GridMarket" "deposits" "[I") ∈ lw_all := lw_g (lw_at lw_m1 138 rfl) rfl
theorem q193 : (Jvm.Cond.fieldLink "GridMarket" (33 : Nat) "GridMarket" "failed" "[Z") ∈ lw_all := lw_g (lw_at lw_m1 139 rfl) rfl
theorem q194 : (Jvm.Cond.fieldLink "GridMarket" (186 : Nat) "GridMarket" "house" "I") ∈ lw_all := lw_g (lw_at lw_m1 140 rfl) rfl
theorem q195 : (Jvm.Cond.laysFinal "GridMarket" "GridMarket" "days" "Ljava/util/List;") ∈ lw_all := lw_g (lw_at lw_m1 141 rfl) rfl
theorem q196 : (Jvm.Cond.soleField "GridMarket" "days") ∈ lw_all := lw_g (lw_at lw_m1 142 rfl) rfl
theorem q197 : (Jvm.Cond.lays "GridMarket" "GridMarket" "today" "LGridMarket$Day;") ∈ lw_all := lw_g (lw_at lw_m1 143 rfl) rfl
theorem q198 : (Jvm.Cond.soleField "GridMarket" "today") ∈ lw_all := lw_g (lw_at lw_m1 144 rfl) rfl
theorem q199 : (Jvm.Cond.laysFinal "GridMarket" "GridMarket" "limits" "[I") ∈ lw_all := lw_g (lw_at lw_m1 145 rfl) rfl
theorem q200 : (Jvm.Cond.soleField "GridMarket" "limits") ∈ lw_all := lw_g (lw_at lw_m1 146 rfl) rfl
theorem q201 : (Jvm.Cond.laysFinal "GridMarket" "GridMarket" "accounts" "[I") ∈ lw_all := lw_g (lw_at lw_m1 147 rfl) rfl
theorem q202 : (Jvm.Cond.soleField "GridMarket" "accounts") ∈ lw_all := lw_g (lw_at lw_m1 148 rfl) rfl
theorem q203 : (Jvm.Cond.laysFinal "GridMarket" "GridMarket" "deposits" "[I") ∈ lw_all := lw_g (lw_at lw_m1 149 rfl) rfl
theorem q204 : (Jvm.Cond.soleField "GridMarket" "deposits") ∈ lw_all := lw_g (lw_at lw_m1 150 rfl) rfl
theorem q205 : (Jvm.Cond.laysFinal "GridMarket" "GridMarket" "failed" "[Z") ∈ lw_all := lw_g (lw_at lw_m1 151 rfl) rfl
theorem q206 : (Jvm.Cond.soleField "GridMarket" "failed") ∈ lw_all := lw_g (lw_at lw_m1 152 rfl) rfl
theorem q207 : (Jvm.Cond.lays "GridMarket" "GridMarket" "house" "I") ∈ lw_all := lw_g (lw_at lw_m1 153 rfl) rfl
theorem q208 : (Jvm.Cond.soleField "GridMarket" "house") ∈ lw_all := lw_g (lw_at lw_m1 154 rfl) rfl
theorem q209 : (Jvm.Cond.superclass "GridMarket" "java/lang/Object") ∈ lw_all := lw_g (lw_at lw_m1 155 rfl) rfl
theorem q211 : (Jvm.Cond.instanceMethod ({ cls := "GridMarket", name := "day", desc := "()I" } : Jvm.MethodName)) ∈ lw_all := lw_g (lw_at lw_m1 157 rfl) rfl
theorem q212 : (Jvm.Cond.selects "GridMarket" ({ cls := "GridMarket", name := "day", desc := "()I" } : Jvm.MethodName) ({ cls := "GridMarket", name := "day", desc := "()I" } : Jvm.MethodName)) ∈ lw_all := lw_g (lw_at lw_m1 158 rfl) rfl
theorem q213 : (Jvm.Cond.code ({ cls := "GridMarket", name := "day", desc := "()I" } : Jvm.MethodName) prog_1_method_15_code (1 : Nat) (Option.some Jvm.ClassFile.FieldType.int)) ∈ lw_all := lw_g (lw_at lw_m1 159 rfl) rfl
theorem q214 : (Jvm.Cond.interfaceEntry "GridMarket" (70 : Nat)) ∈ lw_tbl := lw_at lw_m1 160 rfl
theorem q215 : (Jvm.Cond.methodLink "GridMarket" (70 : Nat) ({ cls := "java/util/List", name := "size", desc := "()I" } : Jvm.MethodName)) ∈ lw_all := lw_g (lw_at lw_m1 161 rfl) rfl
theorem q225 : (Jvm.Cond.instanceMethod ({ cls := "GridMarket", name := "phase", desc := "()I" } : Jvm.MethodName)) ∈ lw_all := lw_g (lw_at lw_m1 171 rfl) rfl
theorem q226 : (Jvm.Cond.selects "GridMarket" ({ cls := "GridMarket", name := "phase", desc := "()I" } : Jvm.MethodName) ({ cls := "GridMarket", name := "phase", desc := "()I" } : Jvm.MethodName)) ∈ lw_all := lw_g (lw_at lw_m1 172 rfl) rfl
theorem q227 : (Jvm.Cond.code ({ cls := "GridMarket", name := "phase", desc := "()I" } : Jvm.MethodName) prog_1_method_16_code (1 : Nat) (Option.some Jvm.ClassFile.FieldType.int)) ∈ lw_all := lw_g (lw_at lw_m1 173 rfl) rfl
theorem q229 : (Jvm.Cond.instanceMethod ({ cls := "GridMarket", name := "house", desc := "()I" } : Jvm.MethodName)) ∈ lw_all := lw_g (lw_at lw_m1 175 rfl) rfl
theorem q230 : (Jvm.Cond.selects "GridMarket" ({ cls := "GridMarket", name := "house", desc := "()I" } : Jvm.MethodName) ({ cls := "GridMarket", name := "house", desc := "()I" } : Jvm.MethodName)) ∈ lw_all := lw_g (lw_at lw_m1 176 rfl) rfl
theorem q231 : (Jvm.Cond.code ({ cls := "GridMarket", name := "house", desc := "()I" } : Jvm.MethodName) prog_1_method_33_code (1 : Nat) (Option.some Jvm.ClassFile.FieldType.int)) ∈ lw_all := lw_g (lw_at lw_m1 177 rfl) rfl
theorem q317 : (Jvm.Cond.instanceMethod ({ cls := "GridMarket", name := "deposit", desc := "(II)I" } : Jvm.MethodName)) ∈ lw_all := lw_g (lw_at lw_m2 23 rfl) rfl
theorem q318 : (Jvm.Cond.selects "GridMarket" ({ cls := "GridMarket", name := "deposit", desc := "(II)I" } : Jvm.MethodName) ({ cls := "GridMarket", name := "deposit", desc := "(II)I" } : Jvm.MethodName)) ∈ lw_all := lw_g (lw_at lw_m2 24 rfl) rfl
theorem q319 : (Jvm.Cond.code ({ cls := "GridMarket", name := "deposit", desc := "(II)I" } : Jvm.MethodName) prog_1_method_2_code (3 : Nat) (Option.some Jvm.ClassFile.FieldType.int)) ∈ lw_all := lw_g (lw_at lw_m2 25 rfl) rfl
theorem q320 : (Jvm.Cond.methodLink "GridMarket" (37 : Nat) ({ cls := "GridMarket", name := "isFirm", desc := "(I)Z" } : Jvm.MethodName)) ∈ lw_all := lw_g (lw_at lw_m2 26 rfl) rfl
theorem q321 : (Jvm.Cond.static ({ cls := "GridMarket", name := "isFirm", desc := "(I)Z" } : Jvm.MethodName)) ∈ lw_all := lw_g (lw_at lw_m2 27 rfl) rfl
theorem q322 : (Jvm.Cond.code ({ cls := "GridMarket", name := "isFirm", desc := "(I)Z" } : Jvm.MethodName) prog_1_method_38_code (1 : Nat) (Option.some Jvm.ClassFile.FieldType.boolean)) ∈ lw_all := lw_g (lw_at lw_m2 28 rfl) rfl
theorem q323 : (Jvm.Cond.methodLink "GridMarket" (46 : Nat) ({ cls := "GridMarket", name := "isIn", desc := "(III)Z" } : Jvm.MethodName)) ∈ lw_all := lw_g (lw_at lw_m2 29 rfl) rfl
theorem q324 : (Jvm.Cond.static ({ cls := "GridMarket", name := "isIn", desc := "(III)Z" } : Jvm.MethodName)) ∈ lw_all := lw_g (lw_at lw_m2 30 rfl) rfl
theorem q325 : (Jvm.Cond.code ({ cls := "GridMarket", name := "isIn", desc := "(III)Z" } : Jvm.MethodName) prog_1_method_37_code (3 : Nat) (Option.some Jvm.ClassFile.FieldType.boolean)) ∈ lw_all := lw_g (lw_at lw_m2 31 rfl) rfl
theorem q326 : (Jvm.Cond.methodLink "GridMarket" (41 : Nat) ({ cls := "GridMarket", name := "place", desc := "(Z)V" } : Jvm.MethodName)) ∈ lw_all := lw_g (lw_at lw_m2 32 rfl) rfl
theorem q327 : (Jvm.Cond.static ({ cls := "GridMarket", name := "place", desc := "(Z)V" } : Jvm.MethodName)) ∈ lw_all := lw_g (lw_at lw_m2 33 rfl) rfl
theorem q328 : (Jvm.Cond.code ({ cls := "GridMarket", name := "place", desc := "(Z)V" } : Jvm.MethodName) prog_1_method_34_code (1 : Nat) (Option.none : Option Jvm.ClassFile.FieldType)) ∈ lw_all := lw_g (lw_at lw_m2 34 rfl) rfl
theorem q329 : (Jvm.Cond.classLink "GridMarket" (252 : Nat) "java/lang/IndexOutOfBoundsException") ∈ lw_all := lw_g (lw_at lw_m2 35 rfl) rfl
theorem q338 : (Jvm.Cond.stringRef "GridMarket" (254 : Nat) "not there") ∈ lw_tbl := lw_at lw_m2 44 rfl
theorem q339 : (Jvm.Cond.methodLink "GridMarket" (256 : Nat) ({ cls := "java/lang/IndexOutOfBoundsException", name := "<init>", desc := "(Ljava/lang/String;)V" } : Jvm.MethodName)) ∈ lw_all := lw_g (lw_at lw_m2 45 rfl) rfl
theorem q342 : (Jvm.Cond.constant "GridMarket" (45 : Nat) (100000 : Int32)) ∈ lw_all := lw_g (lw_at lw_m2 48 rfl) rfl
theorem q343 : (Jvm.Cond.methodLink "GridMarket" (50 : Nat) ({ cls := "GridMarket", name := "check", desc := "(Z)V" } : Jvm.MethodName)) ∈ lw_all := lw_g (lw_at lw_m2 49 rfl) rfl
theorem q344 : (Jvm.Cond.static ({ cls := "GridMarket", name := "check", desc := "(Z)V" } : Jvm.MethodName)) ∈ lw_all := lw_g (lw_at lw_m2 50 rfl) rfl
theorem q345 : (Jvm.Cond.code ({ cls := "GridMarket", name := "check", desc := "(Z)V" } : Jvm.MethodName) prog_1_method_35_code (1 : Nat) (Option.none : Option Jvm.ClassFile.FieldType)) ∈ lw_all := lw_g (lw_at lw_m2 51 rfl) rfl
theorem q346 : (Jvm.Cond.classLink "GridMarket" (259 : Nat) "java/lang/IllegalArgumentException") ∈ lw_all := lw_g (lw_at lw_m2 52 rfl) rfl
theorem q355 : (Jvm.Cond.stringRef "GridMarket" (261 : Nat) "out of range") ∈ lw_tbl := lw_at lw_m2 61 rfl
theorem q356 : (Jvm.Cond.methodLink "GridMarket" (263 : Nat) ({ cls := "java/lang/IllegalArgumentException", name := "<init>", desc := "(Ljava/lang/String;)V" } : Jvm.MethodName)) ∈ lw_all := lw_g (lw_at lw_m2 62 rfl) rfl
theorem q362 : (Jvm.Cond.constant "GridMarket" (53 : Nat) (10000000 : Int32)) ∈ lw_all := lw_g (lw_at lw_m2 68 rfl) rfl
theorem q363 : (Jvm.Cond.methodLink "GridMarket" (54 : Nat) ({ cls := "GridMarket", name := "allow", desc := "(Z)V" } : Jvm.MethodName)) ∈ lw_all := lw_g (lw_at lw_m2 69 rfl) rfl
theorem q364 : (Jvm.Cond.static ({ cls := "GridMarket", name := "allow", desc := "(Z)V" } : Jvm.MethodName)) ∈ lw_all := lw_g (lw_at lw_m2 70 rfl) rfl
theorem q365 : (Jvm.Cond.code ({ cls := "GridMarket", name := "allow", desc := "(Z)V" } : Jvm.MethodName) prog_1_method_36_code (1 : Nat) (Option.none : Option Jvm.ClassFile.FieldType)) ∈ lw_all := lw_g (lw_at lw_m2 71 rfl) rfl
theorem q366 : (Jvm.Cond.classLink "GridMarket" (128 : Nat) "java/lang/IllegalStateException") ∈ lw_all := lw_g (lw_at lw_m2 72 rfl) rfl
theorem q375 : (Jvm.Cond.stringRef "GridMarket" (264 : Nat) "not possible") ∈ lw_tbl := lw_at lw_m2 81 rfl
theorem q376 : (Jvm.Cond.methodLink "GridMarket" (266 : Nat) ({ cls := "java/lang/IllegalStateException", name := "<init>", desc := "(Ljava/lang/String;)V" } : Jvm.MethodName)) ∈ lw_all := lw_g (lw_at lw_m2 82 rfl) rfl
theorem q386 : (Jvm.Cond.instanceMethod ({ cls := "GridMarket", name := "setLimit", desc := "(II)I" } : Jvm.MethodName)) ∈ lw_all := lw_g (lw_at lw_m2 92 rfl) rfl
theorem q387 : (Jvm.Cond.selects "GridMarket" ({ cls := "GridMarket", name := "setLimit", desc := "(II)I" } : Jvm.MethodName) ({ cls := "GridMarket", name := "setLimit", desc := "(II)I" } : Jvm.MethodName)) ∈ lw_all := lw_g (lw_at lw_m2 93 rfl) rfl
theorem q388 : (Jvm.Cond.code ({ cls := "GridMarket", name := "setLimit", desc := "(II)I" } : Jvm.MethodName) prog_1_method_3_code (4 : Nat) (Option.some Jvm.ClassFile.FieldType.int)) ∈ lw_all := lw_g (lw_at lw_m2 94 rfl) rfl
theorem q393 : (Jvm.Cond.instanceMethod ({ cls := "GridMarket", name := "bid", desc := "(IIIZII)I" } : Jvm.MethodName)) ∈ lw_all := lw_g (lw_at lw_m2 99 rfl) rfl
theorem q394 : (Jvm.Cond.selects "GridMarket" ({ cls := "GridMarket", name := "bid", desc := "(IIIZII)I" } : Jvm.MethodName) ({ cls := "GridMarket", name := "bid", desc := "(IIIZII)I" } : Jvm.MethodName)) ∈ lw_all := lw_g (lw_at lw_m2 100 rfl) rfl
theorem q395 : (Jvm.Cond.code ({ cls := "GridMarket", name := "bid", desc := "(IIIZII)I" } : Jvm.MethodName) prog_1_method_4_code (7 : Nat) (Option.some Jvm.ClassFile.FieldType.int)) ∈ lw_all := lw_g (lw_at lw_m2 101 rfl) rfl
theorem q396 : (Jvm.Cond.methodLink "GridMarket" (61 : Nat) ({ cls := "GridMarket", name := "isZone", desc := "(I)Z" } : Jvm.MethodName)) ∈ lw_all := lw_g (lw_at lw_m2 102 rfl) rfl
theorem q397 : (Jvm.Cond.static ({ cls := "GridMarket", name := "isZone", desc := "(I)Z" } : Jvm.MethodName)) ∈ lw_all := lw_g (lw_at lw_m2 103 rfl) rfl
theorem q398 : (Jvm.Cond.code ({ cls := "GridMarket", name := "isZone", desc := "(I)Z" } : Jvm.MethodName) prog_1_method_39_code (1 : Nat) (Option.some Jvm.ClassFile.FieldType.boolean)) ∈ lw_all := lw_g (lw_at lw_m2 104 rfl) rfl
theorem q399 : (Jvm.Cond.methodLink "GridMarket" (64 : Nat) ({ cls := "GridMarket", name := "isHour", desc := "(I)Z" } : Jvm.MethodName)) ∈ lw_all := lw_g (lw_at lw_m2 105 rfl) rfl
theorem q400 : (Jvm.Cond.static ({ cls := "GridMarket", name := "isHour", desc := "(I)Z" } : Jvm.MethodName)) ∈ lw_all := lw_g (lw_at lw_m2 106 rfl) rfl
theorem q401 : (Jvm.Cond.code ({ cls := "GridMarket", name := "isHour", desc := "(I)Z" } : Jvm.MethodName) prog_1_method_40_code (1 : Nat) (Option.some Jvm.ClassFile.FieldType.boolean)) ∈ lw_all := lw_g (lw_at lw_m2 107 rfl) rfl
theorem q402 : (Jvm.Cond.classLink "GridMarket" (76 : Nat) "GridMarket$Bid") ∈ lw_all := lw_g (lw_at lw_m2 108 rfl) rfl
theorem q404 : (Jvm.Cond.methodLink "GridMarket" (78 : Nat) ({ cls := "GridMarket$Bid", name := "<init>", desc := "(IIIZII)V" } : Jvm.MethodName)) ∈ lw_all := lw_g (lw_at lw_m2 110 rfl) rfl
theorem q410 : (Jvm.Cond.fieldLinkNest "GridMarket" (398 : Nat) "GridMarket$Bid" "firm" "I" "GridMarket") ∈ lw_tbl := lw_at lw_m2 116 rfl
theorem q413 : (Jvm.Cond.fieldLinkNest "GridMarket" (332 : Nat) "GridMarket$Bid" "zone" "I" "GridMarket") ∈ lw_tbl := lw_at lw_m2 119 rfl
theorem q416 : (Jvm.Cond.fieldLinkNest "GridMarket" (329 : Nat) "GridMarket$Bid" "hour" "I" "GridMarket") ∈ lw_tbl := lw_at lw_m2 122 rfl
theorem q420 : (Jvm.Cond.fieldLinkNest "GridMarket" (232 : Nat) "GridMarket$Bid" "isBuy" "Z" "GridMarket") ∈ lw_tbl := lw_at lw_m2 126 rfl
theorem q423 : (Jvm.Cond.fieldLinkNest "GridMarket" (235 : Nat) "GridMarket$Bid" "price" "I" "GridMarket") ∈ lw_tbl := lw_at lw_m2 129 rfl
theorem q428 : (Jvm.Cond.fieldLinkNest "GridMarket" (207 : Nat) "GridMarket$Bid" "taken" "I" "GridMarket") ∈ lw_tbl := lw_at lw_m2 134 rfl
theorem q444 : (Jvm.Cond.interfaceEntry "GridMarket" (81 : Nat)) ∈ lw_tbl := lw_at lw_m2 150 rfl
theorem q445 : (Jvm.Cond.methodLink "GridMarket" (81 : Nat) ({ cls := "java/util/List", name := "add", desc := "(Ljava/lang/Object;)Z" } : Jvm.MethodName)) ∈ lw_all := lw_g (lw_at lw_m2 151 rfl) rfl
theorem q481 : (Jvm.Cond.selects "GridMarket" ({ cls := "java/lang/Object", name := "getClass", desc := "()Ljava/lang/Class;" } : Jvm.MethodName) ({ cls := "java/lang/Object", name := "getClass", desc := "()Ljava/lang/Class;" } : Jvm.MethodName)) ∈ lw_all := lw_g (lw_at lw_m2 187 rfl) rfl
theorem q521 : (Jvm.Cond.instanceMethod ({ cls := "GridMarket", name := "block", desc := "(IIIZII)I" } : Jvm.MethodName)) ∈ lw_all := lw_g (lw_at lw_m2 227 rfl) rfl
theorem q522 : (Jvm.Cond.selects "GridMarket" ({ cls := "GridMarket", name := "block", desc := "(IIIZII)I" } : Jvm.MethodName) ({ cls := "GridMarket", name := "block", desc := "(IIIZII)I" } : Jvm.MethodName)) ∈ lw_all := lw_g (lw_at lw_m2 228 rfl) rfl
theorem q523 : (Jvm.Cond.code ({ cls := "GridMarket", name := "block", desc := "(IIIZII)I" } : Jvm.MethodName) prog_1_method_5_code (7 : Nat) (Option.some Jvm.ClassFile.FieldType.int)) ∈ lw_all := lw_g (lw_at lw_m2 229 rfl) rfl
theorem q524 : (Jvm.Cond.classLink "GridMarket" (88 : Nat) "GridMarket$Block") ∈ lw_all := lw_g (lw_at lw_m2 230 rfl) rfl
theorem q526 : (Jvm.Cond.methodLink "GridMarket" (90 : Nat) ({ cls := "GridMarket$Block", name := "<init>", desc := "(IIIZII)V" } : Jvm.MethodName)) ∈ lw_all := lw_g (lw_at lw_m2 232 rfl) rfl
theorem q532 : (Jvm.Cond.fieldLinkNest "GridMarket" (399 : Nat) "GridMarket$Block" "firm" "I" "GridMarket") ∈ lw_tbl := lw_at lw_m2 238 rfl
theorem q535 : (Jvm.Cond.fieldLinkNest "GridMarket" (295 : Nat) "GridMarket$Block" "zone" "I" "GridMarket") ∈ lw_tbl := lw_at lw_m3 1 rfl
theorem q539 : (Jvm.Cond.fieldLinkNest "GridMarket" (300 : Nat) "GridMarket$Block" "isBuy" "Z" "GridMarket") ∈ lw_tbl := lw_at lw_m3 5 rfl
theorem q543 : (Jvm.Cond.fieldLinkNest "GridMarket" (301 : Nat) "GridMarket$Block" "units" "I" "GridMarket") ∈ lw_tbl := lw_at lw_m3 9 rfl
theorem q545 : (Jvm.Cond.fieldLinkNest "GridMarket" (95 : Nat) "GridMarket$Block" "to" "I" "GridMarket") ∈ lw_tbl := lw_at lw_m3 11 rfl
theorem q547 : (Jvm.Cond.fieldLinkNest "GridMarket" (99 : Nat) "GridMarket$Block" "group" "I" "GridMarket") ∈ lw_tbl := lw_at lw_m3 13 rfl
theorem q549 : (Jvm.Cond.fieldLinkNest "GridMarket" (210 : Nat) "GridMarket$Block" "isTaken" "Z" "GridMarket") ∈ lw_tbl := lw_at lw_m3 15 rfl
theorem q573 : (Jvm.Cond.instanceMethod ({ cls := "GridMarket", name := "link", desc := "(III)V" } : Jvm.MethodName)) ∈ lw_all := lw_g (lw_at lw_m3 39 rfl) rfl
theorem q574 : (Jvm.Cond.selects "GridMarket" ({ cls := "GridMarket", name := "link", desc := "(III)V" } : Jvm.MethodName) ({ cls := "GridMarket", name := "link", desc := "(III)V" } : Jvm.MethodName)) ∈ lw_all := lw_g (lw_at lw_m3 40 rfl) rfl
theorem q575 : (Jvm.Cond.code ({ cls := "GridMarket", name := "link", desc := "(III)V" } : Jvm.MethodName) prog_1_method_6_code (4 : Nat) (Option.none : Option Jvm.ClassFile.FieldType)) ∈ lw_all := lw_g (lw_at lw_m3 41 rfl) rfl
theorem q576 : (Jvm.Cond.interfaceEntry "GridMarket" (91 : Nat)) ∈ lw_tbl := lw_at lw_m3 42 rfl
theorem q577 : (Jvm.Cond.methodLink "GridMarket" (91 : Nat) ({ cls := "java/util/List", name := "get", desc := "(I)Ljava/lang/Object;" } : Jvm.MethodName)) ∈ lw_all := lw_g (lw_at lw_m3 43 rfl) rfl
theorem q599 : (Jvm.Cond.instanceMethod ({ cls := "GridMarket", name := "ask", desc := "(IIIII)I" } : Jvm.MethodName)) ∈ lw_all := lw_g (lw_at lw_m3 65 rfl) rfl
theorem q600 : (Jvm.Cond.selects "GridMarket" ({ cls := "GridMarket", name := "ask", desc := "(IIIII)I" } : Jvm.MethodName) ({ cls := "GridMarket", name := "ask", desc := "(IIIII)I" } : Jvm.MethodName)) ∈ lw_all := lw_g (lw_at lw_m3 66 rfl) rfl
theorem q601 : (Jvm.Cond.code ({ cls := "GridMarket", name := "ask", desc := "(IIIII)I" } : Jvm.MethodName) prog_1_method_7_code (6 : Nat) (Option.some Jvm.ClassFile.FieldType.int)) ∈ lw_all := lw_g (lw_at lw_m3 67 rfl) rfl
theorem q602 : (Jvm.Cond.classLink "GridMarket" (105 : Nat) "GridMarket$Ask") ∈ lw_all := lw_g (lw_at lw_m3 68 rfl) rfl
theorem q604 : (Jvm.Cond.methodLink "GridMarket" (107 : Nat) ({ cls := "GridMarket$Ask", name := "<init>", desc := "(IIIII)V" } : Jvm.MethodName)) ∈ lw_all := lw_g (lw_at lw_m3 70 rfl) rfl
theorem q609 : (Jvm.Cond.fieldLinkNest "GridMarket" (400 : Nat) "GridMarket$Ask" "firm" "I" "GridMarket") ∈ lw_tbl := lw_at lw_m3 75 rfl
theorem q611 : (Jvm.Cond.fieldLinkNest "GridMarket" (346 : Nat) "GridMarket$Ask" "from" "I" "GridMarket") ∈ lw_tbl := lw_at lw_m3 77 rfl
theorem q613 : (Jvm.Cond.fieldLinkNest "GridMarket" (349 : Nat) "GridMarket$Ask" "to" "I" "GridMarket") ∈ lw_tbl := lw_at lw_m3 79 rfl
theorem q615 : (Jvm.Cond.fieldLinkNest "GridMarket" (351 : Nat) "GridMarket$Ask" "units" "I" "GridMarket") ∈ lw_tbl := lw_at lw_m3 81 rfl
theorem q617 : (Jvm.Cond.fieldLinkNest "GridMarket" (350 : Nat) "GridMarket$Ask" "price" "I" "GridMarket") ∈ lw_tbl := lw_at lw_m3 83 rfl
theorem q618 : (Jvm.Cond.fieldLinkNest "GridMarket" (240 : Nat) "GridMarket$Ask" "given" "I" "GridMarket") ∈ lw_tbl := lw_at lw_m3 84 rfl
theorem q619 : (Jvm.Cond.fieldLinkNest "GridMarket" (355 : Nat) "GridMarket$Ask" "cost" "I" "GridMarket") ∈ lw_tbl := lw_at lw_m3 85 rfl
theorem q639 : (Jvm.Cond.instanceMethod ({ cls := "GridMarket", name := "clear", desc := "()I" } : Jvm.MethodName)) ∈ lw_all := lw_g (lw_at lw_m3 105 rfl) rfl
theorem q640 : (Jvm.Cond.selects "GridMarket" ({ cls := "GridMarket", name := "clear", desc := "()I" } : Jvm.MethodName) ({ cls := "GridMarket", name := "clear", desc := "()I" } : Jvm.MethodName)) ∈ lw_all := lw_g (lw_at lw_m3 106 rfl) rfl
theorem q641 : (Jvm.Cond.codeWith ({ cls := "GridMarket", name := "clear", desc := "()I" } : Jvm.MethodName) prog_1_method_8_code (7 : Nat) (Option.some Jvm.ClassFile.FieldType.int) [((58 : Nat), (114 : Nat), (117 : Nat), (126 : Nat))]) ∈ lw_all := lw_g (lw_at lw_m3 107 rfl) rfl
theorem q642 : (Jvm.Cond.classLink "GridMarket" (126 : Nat) "GridMarket$Impossible") ∈ lw_all := lw_g (lw_at lw_m3 108 rfl) rfl
theorem q643 : (Jvm.Cond.methodLink "GridMarket" (110 : Nat) ({ cls := "GridMarket", name := "curves", desc := "()[[LGridMarket$Curve;" } : Jvm.MethodName)) ∈ lw_all := lw_g (lw_at lw_m3 109 rfl) rfl
theorem q644 : (Jvm.Cond.privateMethod ({ cls := "GridMarket", name := "curves", desc := "()[[LGridMarket$Curve;" } : Jvm.MethodName)) ∈ lw_tbl := lw_at lw_m3 110 rfl
theorem q645 : (Jvm.Cond.instanceMethod ({ cls := "GridMarket", name := "curves", desc := "()[[LGridMarket$Curve;" } : Jvm.MethodName)) ∈ lw_all := lw_g (lw_at lw_m3 111 rfl) rfl
theorem q646 : (Jvm.Cond.code ({ cls := "GridMarket", name := "curves", desc := "()[[LGridMarket$Curve;" } : Jvm.MethodName) prog_1_method_51_code (4 : Nat) (Option.some (Jvm.ClassFile.FieldType.array (Jvm.ClassFile.FieldType.array (Jvm.ClassFile.FieldType.object "GridMarket$Curve"))))) ∈ lw_all := lw_g (lw_at lw_m3 112 rfl) rfl
theorem q647 : (Jvm.Cond.classLink "GridMarket" (324 : Nat) "[[LGridMarket$Curve;") ∈ lw_all := lw_g (lw_at lw_m3 113 rfl) rfl
theorem q651 : (Jvm.Cond.classLink "GridMarket" (326 : Nat) "GridMarket$Curve") ∈ lw_all := lw_g (lw_at lw_m3 117 rfl) rfl
theorem q653 : (Jvm.Cond.methodLinkNest "GridMarket" (328 : Nat) ({ cls := "GridMarket$Curve", name := "<init>", desc := "()V" } : Jvm.MethodName) "GridMarket") ∈ lw_tbl := lw_at lw_m3 119 rfl
theorem q672 : (Jvm.Cond.interfaceEntry "GridMarket" (218 : Nat)) ∈ lw_tbl := lw_at lw_m3 138 rfl
theorem q673 : (Jvm.Cond.methodLink "GridMarket" (218 : Nat) ({ cls := "java/util/List", name := "iterator", desc := "()Ljava/util/Iterator;" } : Jvm.MethodName)) ∈ lw_all := lw_g (lw_at lw_m3 139 rfl) rfl
theorem q700 : (Jvm.Cond.interfaceEntry "GridMarket" (222 : Nat)) ∈ lw_tbl := lw_at lw_m3 166 rfl
theorem q701 : (Jvm.Cond.methodLink "GridMarket" (222 : Nat) ({ cls := "java/util/Iterator", name := "hasNext", desc := "()Z" } : Jvm.MethodName)) ∈ lw_all := lw_g (lw_at lw_m3 167 rfl) rfl
theorem q710 : (Jvm.Cond.interfaceEntry "GridMarket" (228 : Nat)) ∈ lw_tbl := lw_at lw_m3 176 rfl
theorem q711 : (Jvm.Cond.methodLink "GridMarket" (228 : Nat) ({ cls := "java/util/Iterator", name := "next", desc := "()Ljava/lang/Object;" } : Jvm.MethodName)) ∈ lw_all := lw_g (lw_at lw_m3 177 rfl) rfl
theorem q723 : (Jvm.Cond.methodLink "GridMarket" (333 : Nat) ({ cls := "GridMarket$Curve", name := "add", desc := "(LGridMarket$Bid;)V" } : Jvm.MethodName)) ∈ lw_all := lw_g (lw_at lw_m3 189 rfl) rfl
theorem q978 : (Jvm.Cond.methodLink "GridMarket" (336 : Nat) ({ cls := "GridMarket$Curve", name := "find", desc := "()V" } : Jvm.MethodName)) ∈ lw_all := lw_g (lw_at lw_m4 204 rfl) rfl
theorem q996 : (Jvm.Cond.methodLink "GridMarket" (114 : Nat) ({ cls := "GridMarket", name := "isAllowed", desc := "(I)Z" } : Jvm.MethodName)) ∈ lw_all := lw_g (lw_at lw_m4 222 rfl) rfl
theorem q997 : (Jvm.Cond.privateMethod ({ cls := "GridMarket", name := "isAllowed", desc := "(I)Z" } : Jvm.MethodName)) ∈ lw_tbl := lw_at lw_m4 223 rfl
theorem q998 : (Jvm.Cond.instanceMethod ({ cls := "GridMarket", name := "isAllowed", desc := "(I)Z" } : Jvm.MethodName)) ∈ lw_all := lw_g (lw_at lw_m4 224 rfl) rfl
theorem q999 : (Jvm.Cond.code ({ cls := "GridMarket", name := "isAllowed", desc := "(I)Z" } : Jvm.MethodName) prog_1_method_48_code (8 : Nat) (Option.some Jvm.ClassFile.FieldType.boolean)) ∈ lw_all := lw_g (lw_at lw_m4 225 rfl) rfl
theorem q1000 : (Jvm.Cond.methodLink "GridMarket" (117 : Nat) ({ cls := "GridMarket", name := "resultOf", desc := "(I[[LGridMarket$Curve;)LGridMarket$Result;" } : Jvm.MethodName)) ∈ lw_all := lw_g (lw_at lw_m4 226 rfl) rfl
theorem q1001 : (Jvm.Cond.privateMethod ({ cls := "GridMarket", name := "resultOf", desc := "(I[[LGridMarket$Curve;)LGridMarket$Result;" } : Jvm.MethodName)) ∈ lw_tbl := lw_at lw_m4 227 rfl
theorem q1002 : (Jvm.Cond.instanceMethod ({ cls := "GridMarket", name := "resultOf", desc := "(I[[LGridMarket$Curve;)LGridMarket$Result;" } : Jvm.MethodName)) ∈ lw_all := lw_g (lw_at lw_m4 228 rfl) rfl
theorem q1003 : (Jvm.Cond.codeWith ({ cls := "GridMarket", name := "resultOf", desc := "(I[[LGridMarket$Curve;)LGridMarket$Result;" } : Jvm.MethodName) prog_1_method_49_code (10 : Nat) (Option.some (Jvm.ClassFile.FieldType.object "GridMarket$Result")) [((68 : Nat), (101 : Nat), (104 : Nat), (126 : Nat))]) ∈ lw_all := lw_g (lw_at lw_m4 229 rfl) rfl
theorem q1004 : (Jvm.Cond.classLink "GridMarket" (122 : Nat) "GridMarket$Result") ∈ lw_all := lw_g (lw_at lw_m4 230 rfl) rfl
theorem q1006 : (Jvm.Cond.methodLinkNest "GridMarket" (304 : Nat) ({ cls := "GridMarket$Result", name := "<init>", desc := "()V" } : Jvm.MethodName) "GridMarket") ∈ lw_tbl := lw_at lw_m4 232 rfl
theorem q1012 : (Jvm.Cond.fieldLinkNest "GridMarket" (200 : Nat) "GridMarket$Result" "nets" "[[I" "GridMarket") ∈ lw_tbl := lw_at lw_m4 238 rfl
theorem q1014 : (Jvm.Cond.fieldLinkNest "GridMarket" (196 : Nat) "GridMarket$Result" "prices" "[[I" "GridMarket") ∈ lw_tbl := lw_at lw_m5 0 rfl
theorem q1015 : (Jvm.Cond.fieldLinkNest "GridMarket" (121 : Nat) "GridMarket$Result" "worth" "I" "GridMarket") ∈ lw_tbl := lw_at lw_m5 1 rfl
theorem q1023 : (Jvm.Cond.methodLink "GridMarket" (305 : Nat) ({ cls := "GridMarket", name := "worths", desc := "(I[[LGridMarket$Curve;II)[LGridMarket$Worth;" } : Jvm.MethodName)) ∈ lw_all := lw_g (lw_at lw_m5 9 rfl) rfl
theorem q1024 : (Jvm.Cond.privateMethod ({ cls := "GridMarket", name := "worths", desc := "(I[[LGridMarket$Curve;II)[LGridMarket$Worth;" } : Jvm.MethodName)) ∈ lw_tbl := lw_at lw_m5 10 rfl
theorem q1025 : (Jvm.Cond.instanceMethod ({ cls := "GridMarket", name := "worths", desc := "(I[[LGridMarket$Curve;II)[LGridMarket$Worth;" } : Jvm.MethodName)) ∈ lw_all := lw_g (lw_at lw_m5 11 rfl) rfl
theorem q1026 : (Jvm.Cond.code ({ cls := "GridMarket", name := "worths", desc := "(I[[LGridMarket$Curve;II)[LGridMarket$Worth;" } : Jvm.MethodName) prog_1_method_50_code (9 : Nat) (Option.some (Jvm.ClassFile.FieldType.array (Jvm.ClassFile.FieldType.object "GridMarket$Worth")))) ∈ lw_all := lw_g (lw_at lw_m5 12 rfl) rfl
theorem q1027 : (Jvm.Cond.classLink "GridMarket" (291 : Nat) "GridMarket$Worth") ∈ lw_all := lw_g (lw_at lw_m5 13 rfl) rfl
theorem q1029 : (Jvm.Cond.methodLink "GridMarket" (318 : Nat) ({ cls := "GridMarket", name := "made", desc := "(III)I" } : Jvm.MethodName)) ∈ lw_all := lw_g (lw_at lw_m5 15 rfl) rfl
theorem q1030 : (Jvm.Cond.privateMethod ({ cls := "GridMarket", name := "made", desc := "(III)I" } : Jvm.MethodName)) ∈ lw_tbl := lw_at lw_m5 16 rfl
theorem q1031 : (Jvm.Cond.instanceMethod ({ cls := "GridMarket", name := "made", desc := "(III)I" } : Jvm.MethodName)) ∈ lw_all := lw_g (lw_at lw_m5 17 rfl) rfl
theorem q1032 : (Jvm.Cond.code ({ cls := "GridMarket", name := "made", desc := "(III)I" } : Jvm.MethodName) prog_1_method_47_code (8 : Nat) (Option.some Jvm.ClassFile.FieldType.int)) ∈ lw_all := lw_g (lw_at lw_m5 18 rfl) rfl
theorem q1033 : (Jvm.Cond.methodLink "GridMarket" (298 : Nat) ({ cls := "GridMarket$Block", name := "isIn", desc := "(I)Z" } : Jvm.MethodName)) ∈ lw_all := lw_g (lw_at lw_m5 19 rfl) rfl
theorem q1037 : (Jvm.Cond.static ({ cls := "GridMarket", name := "lambda$worths$0", desc := "(LGridMarket$Curve;II)I" } : Jvm.MethodName)) ∈ lw_all := lw_g (lw_at lw_m5 23 rfl) rfl
theorem q1038 : (Jvm.Cond.code ({ cls := "GridMarket", name := "lambda$worths$0", desc := "(LGridMarket$Curve;II)I" } : Jvm.MethodName) prog_1_method_64_code (3 : Nat) (Option.some Jvm.ClassFile.FieldType.int)) ∈ lw_all := lw_g (lw_at lw_m5 24 rfl) rfl
theorem q1039 : (Jvm.Cond.methodLink "GridMarket" (417 : Nat) ({ cls := "GridMarket$Curve", name := "at", desc := "(I)I" } : Jvm.MethodName)) ∈ lw_all := lw_g (lw_at lw_m5 25 rfl) rfl
theorem q1043 : (Jvm.Cond.methodLink "GridMarket" (309 : Nat) ({ cls := "GridMarket", name := "most", desc := "([LGridMarket$Worth;[I)I" } : Jvm.MethodName)) ∈ lw_all := lw_g (lw_at lw_m5 29 rfl) rfl
theorem q1044 : (Jvm.Cond.privateMethod ({ cls := "GridMarket", name := "most", desc := "([LGridMarket$Worth;[I)I" } : Jvm.MethodName)) ∈ lw_tbl := lw_at lw_m5 30 rfl
theorem q1045 : (Jvm.Cond.instanceMethod ({ cls := "GridMarket", name := "most", desc := "([LGridMarket$Worth;[I)I" } : Jvm.MethodName)) ∈ lw_all := lw_g (lw_at lw_m5 31 rfl) rfl
theorem q1046 : (Jvm.Cond.code ({ cls := "GridMarket", name := "most", desc := "([LGridMarket$Worth;[I)I" } : Jvm.MethodName) prog_1_method_45_code (10 : Nat) (Option.some Jvm.ClassFile.FieldType.int)) ∈ lw_all := lw_g (lw_at lw_m5 32 rfl) rfl
theorem q1047 : (Jvm.Cond.constant "GridMarket" (272 : Nat) (-100000000 : Int32)) ∈ lw_all := lw_g (lw_at lw_m5 33 rfl) rfl
theorem q1048 : (Jvm.Cond.methodLink "GridMarket" (273 : Nat) ({ cls := "GridMarket", name := "isWithin", desc := "([I)Z" } : Jvm.MethodName)) ∈ lw_all := lw_g (lw_at lw_m5 34 rfl) rfl
theorem q1049 : (Jvm.Cond.privateMethod ({ cls := "GridMarket", name := "isWithin", desc := "([I)Z" } : Jvm.MethodName)) ∈ lw_tbl := lw_at lw_m5 35 rfl
theorem q1050 : (Jvm.Cond.instanceMethod ({ cls := "GridMarket", name := "isWithin", desc := "([I)Z" } : Jvm.MethodName)) ∈ lw_all := lw_g (lw_at lw_m5 36 rfl) rfl
theorem q1051 : (Jvm.Cond.code ({ cls := "GridMarket", name := "isWithin", desc := "([I)Z" } : Jvm.MethodName) prog_1_method_44_code (4 : Nat) (Option.some Jvm.ClassFile.FieldType.boolean)) ∈ lw_all := lw_g (lw_at lw_m5 37 rfl) rfl
theorem q1052 : (Jvm.Cond.methodLink "GridMarket" (203 : Nat) ({ cls := "GridMarket", name := "flowOn", desc := "(I[I)I" } : Jvm.MethodName)) ∈ lw_all := lw_g (lw_at lw_m5 38 rfl) rfl
theorem q1053 : (Jvm.Cond.static ({ cls := "GridMarket", name := "flowOn", desc := "(I[I)I" } : Jvm.MethodName)) ∈ lw_all := lw_g (lw_at lw_m5 39 rfl) rfl
theorem q1054 : (Jvm.Cond.code ({ cls := "GridMarket", name := "flowOn", desc := "(I[I)I" } : Jvm.MethodName) prog_1_method_43_code (2 : Nat) (Option.some Jvm.ClassFile.FieldType.int)) ∈ lw_all := lw_g (lw_at lw_m5 40 rfl) rfl
theorem q1055 : (Jvm.Cond.methodLink "GridMarket" (267 : Nat) ({ cls := "java/lang/Math", name := "abs", desc := "(I)I" } : Jvm.MethodName)) ∈ lw_all := lw_g (lw_at lw_m5 41 rfl) rfl
theorem q1058 : (Jvm.Cond.methodLink "GridMarket" (277 : Nat) ({ cls := "GridMarket", name := "sum", desc := "([LGridMarket$Worth;[I)I" } : Jvm.MethodName)) ∈ lw_all := lw_g (lw_at lw_m5 44 rfl) rfl
theorem q1059 : (Jvm.Cond.static ({ cls := "GridMarket", name := "sum", desc := "([LGridMarket$Worth;[I)I" } : Jvm.MethodName)) ∈ lw_all := lw_g (lw_at lw_m5 45 rfl) rfl
theorem q1060 : (Jvm.Cond.code ({ cls := "GridMarket", name := "sum", desc := "([LGridMarket$Worth;[I)I" } : Jvm.MethodName) prog_1_method_46_code (5 : Nat) (Option.some Jvm.ClassFile.FieldType.int)) ∈ lw_all := lw_g (lw_at lw_m5 46 rfl) rfl
theorem q1061 : (Jvm.Cond.interfaceEntry "GridMarket" (290 : Nat)) ∈ lw_tbl := lw_at lw_m5 47 rfl
theorem q1062 : (Jvm.Cond.methodLink "GridMarket" (290 : Nat) ({ cls := "GridMarket$Worth", name := "at", desc := "(I)I" } : Jvm.MethodName)) ∈ lw_all := lw_g (lw_at lw_m5 48 rfl) rfl
theorem q1065 : (Jvm.Cond.methodLink "GridMarket" (281 : Nat) ({ cls := "java/lang/System", name := "arraycopy", desc := "(Ljava/lang/Object;ILjava/lang/Object;II)V" } : Jvm.MethodName)) ∈ lw_all := lw_g (lw_at lw_m5 51 rfl) rfl
theorem q1074 : (Jvm.Cond.stringRef "GridMarket" (287 : Nat) "no nets") ∈ lw_tbl := lw_at lw_m5 60 rfl
theorem q1075 : (Jvm.Cond.methodLink "GridMarket" (289 : Nat) ({ cls := "GridMarket$Impossible", name := "<init>", desc := "(Ljava/lang/String;)V" } : Jvm.MethodName)) ∈ lw_all := lw_g (lw_at lw_m5 61 rfl) rfl
theorem q1081 : (Jvm.Cond.methodLink "GridMarket" (312 : Nat) ({ cls := "java/lang/Math", name := "max", desc := "(II)I" } : Jvm.MethodName)) ∈ lw_all := lw_g (lw_at lw_m5 67 rfl) rfl
theorem q1082 : (Jvm.Cond.methodLink "GridMarket" (214 : Nat) ({ cls := "GridMarket$Block", name := "gain", desc := "([[I)I" } : Jvm.MethodName)) ∈ lw_all := lw_g (lw_at lw_m5 68 rfl) rfl
theorem q1087 : (Jvm.Cond.stringRef "GridMarket" (316 : Nat) "a block loses") ∈ lw_tbl := lw_at lw_m5 73 rfl
theorem q1088 : (Jvm.Cond.methodLink "GridMarket" (238 : Nat) ({ cls := "GridMarket$Block", name := "worth", desc := "()I" } : Jvm.MethodName)) ∈ lw_all := lw_g (lw_at lw_m5 74 rfl) rfl
theorem q1098 : (Jvm.Cond.stringRef "GridMarket" (130 : Nat) "nothing is possible") ∈ lw_tbl := lw_at lw_m5 84 rfl
theorem q1099 : (Jvm.Cond.methodLink "GridMarket" (132 : Nat) ({ cls := "java/lang/IllegalStateException", name := "<init>", desc := "(Ljava/lang/String;Ljava/lang/Throwable;)V" } : Jvm.MethodName)) ∈ lw_all := lw_g (lw_at lw_m5 85 rfl) rfl
theorem q1111 : (Jvm.Cond.methodLink "GridMarket" (135 : Nat) ({ cls := "GridMarket", name := "take", desc := "(I[[LGridMarket$Curve;LGridMarket$Result;)V" } : Jvm.MethodName)) ∈ lw_all := lw_g (lw_at lw_m5 97 rfl) rfl
theorem q1112 : (Jvm.Cond.privateMethod ({ cls := "GridMarket", name := "take", desc := "(I[[LGridMarket$Curve;LGridMarket$Result;)V" } : Jvm.MethodName)) ∈ lw_tbl := lw_at lw_m5 98 rfl
theorem q1113 : (Jvm.Cond.instanceMethod ({ cls := "GridMarket", name := "take", desc := "(I[[LGridMarket$Curve;LGridMarket$Result;)V" } : Jvm.MethodName)) ∈ lw_all := lw_g (lw_at lw_m5 99 rfl) rfl
theorem q1114 : (Jvm.Cond.code ({ cls := "GridMarket", name := "take", desc := "(I[[LGridMarket$Curve;LGridMarket$Result;)V" } : Jvm.MethodName) prog_1_method_52_code (6 : Nat) (Option.none : Option Jvm.ClassFile.FieldType)) ∈ lw_all := lw_g (lw_at lw_m5 100 rfl) rfl
theorem q1115 : (Jvm.Cond.methodLink "GridMarket" (339 : Nat) ({ cls := "GridMarket$Curve", name := "take", desc := "(I)V" } : Jvm.MethodName)) ∈ lw_all := lw_g (lw_at lw_m5 101 rfl) rfl
theorem q1123 : (Jvm.Cond.methodLink "GridMarket" (342 : Nat) ({ cls := "GridMarket", name := "give", desc := "(II)V" } : Jvm.MethodName)) ∈ lw_all := lw_g (lw_at lw_m5 109 rfl) rfl
theorem q1124 : (Jvm.Cond.privateMethod ({ cls := "GridMarket", name := "give", desc := "(II)V" } : Jvm.MethodName)) ∈ lw_tbl := lw_at lw_m5 110 rfl
theorem q1125 : (Jvm.Cond.instanceMethod ({ cls := "GridMarket", name := "give", desc := "(II)V" } : Jvm.MethodName)) ∈ lw_all := lw_g (lw_at lw_m5 111 rfl) rfl
theorem q1126 : (Jvm.Cond.code ({ cls := "GridMarket", name := "give", desc := "(II)V" } : Jvm.MethodName) prog_1_method_53_code (9 : Nat) (Option.none : Option Jvm.ClassFile.FieldType)) ∈ lw_all := lw_g (lw_at lw_m5 112 rfl) rfl
theorem q1127 : (Jvm.Cond.methodLink "GridMarket" (352 : Nat) ({ cls := "java/lang/Math", name := "min", desc := "(II)I" } : Jvm.MethodName)) ∈ lw_all := lw_g (lw_at lw_m5 113 rfl) rfl
theorem q1132 : (Jvm.Cond.instanceMethod ({ cls := "GridMarket", name := "offer", desc := "(IIIZII)I" } : Jvm.MethodName)) ∈ lw_all := lw_g (lw_at lw_m5 118 rfl) rfl
theorem q1133 : (Jvm.Cond.selects "GridMarket" ({ cls := "GridMarket", name := "offer", desc := "(IIIZII)I" } : Jvm.MethodName) ({ cls := "GridMarket", name := "offer", desc := "(IIIZII)I" } : Jvm.MethodName)) ∈ lw_all := lw_g (lw_at lw_m5 119 rfl) rfl
theorem q1134 : (Jvm.Cond.code ({ cls := "GridMarket", name := "offer", desc := "(IIIZII)I" } : Jvm.MethodName) prog_1_method_9_code (8 : Nat) (Option.some Jvm.ClassFile.FieldType.int)) ∈ lw_all := lw_g (lw_at lw_m5 120 rfl) rfl
theorem q1135 : (Jvm.Cond.classLink "GridMarket" (142 : Nat) "GridMarket$Offer") ∈ lw_all := lw_g (lw_at lw_m5 121 rfl) rfl
theorem q1137 : (Jvm.Cond.methodLink "GridMarket" (144 : Nat) ({ cls := "GridMarket$Offer", name := "<init>", desc := "(IIIZII)V" } : Jvm.MethodName)) ∈ lw_all := lw_g (lw_at lw_m5 123 rfl) rfl
theorem q1143 : (Jvm.Cond.fieldLinkNest "GridMarket" (360 : Nat) "GridMarket$Offer" "firm" "I" "GridMarket") ∈ lw_tbl := lw_at lw_m5 129 rfl
theorem q1146 : (Jvm.Cond.fieldLinkNest "GridMarket" (367 : Nat) "GridMarket$Offer" "zone" "I" "GridMarket") ∈ lw_tbl := lw_at lw_m5 132 rfl
theorem q1149 : (Jvm.Cond.fieldLinkNest "GridMarket" (358 : Nat) "GridMarket$Offer" "hour" "I" "GridMarket") ∈ lw_tbl := lw_at lw_m5 135 rfl
theorem q1151 : (Jvm.Cond.fieldLinkNest "GridMarket" (359 : Nat) "GridMarket$Offer" "isBuy" "Z" "GridMarket") ∈ lw_tbl := lw_at lw_m5 137 rfl
theorem q1153 : (Jvm.Cond.fieldLinkNest "GridMarket" (363 : Nat) "GridMarket$Offer" "price" "I" "GridMarket") ∈ lw_tbl := lw_at lw_m5 139 rfl
theorem q1155 : (Jvm.Cond.fieldLinkNest "GridMarket" (149 : Nat) "GridMarket$Offer" "left" "I" "GridMarket") ∈ lw_tbl := lw_at lw_m5 141 rfl
theorem q1169 : (Jvm.Cond.methodLink "GridMarket" (145 : Nat) ({ cls := "GridMarket", name := "match", desc := "(LGridMarket$Offer;)V" } : Jvm.MethodName)) ∈ lw_all := lw_g (lw_at lw_m5 155 rfl) rfl
theorem q1170 : (Jvm.Cond.privateMethod ({ cls := "GridMarket", name := "match", desc := "(LGridMarket$Offer;)V" } : Jvm.MethodName)) ∈ lw_tbl := lw_at lw_m5 156 rfl
theorem q1171 : (Jvm.Cond.instanceMethod ({ cls := "GridMarket", name := "match", desc := "(LGridMarket$Offer;)V" } : Jvm.MethodName)) ∈ lw_all := lw_g (lw_at lw_m5 157 rfl) rfl
theorem q1172 : (Jvm.Cond.code ({ cls := "GridMarket", name := "match", desc := "(LGridMarket$Offer;)V" } : Jvm.MethodName) prog_1_method_57_code (7 : Nat) (Option.none : Option Jvm.ClassFile.FieldType)) ∈ lw_all := lw_g (lw_at lw_m5 158 rfl) rfl
theorem q1173 : (Jvm.Cond.methodLink "GridMarket" (372 : Nat) ({ cls := "GridMarket", name := "bestFor", desc := "(LGridMarket$Offer;[Z)LGridMarket$Offer;" } : Jvm.MethodName)) ∈ lw_all := lw_g (lw_at lw_m5 159 rfl) rfl
theorem q1174 : (Jvm.Cond.privateMethod ({ cls := "GridMarket", name := "bestFor", desc := "(LGridMarket$Offer;[Z)LGridMarket$Offer;" } : Jvm.MethodName)) ∈ lw_tbl := lw_at lw_m5 160 rfl
theorem q1175 : (Jvm.Cond.instanceMethod ({ cls := "GridMarket", name := "bestFor", desc := "(LGridMarket$Offer;[Z)LGridMarket$Offer;" } : Jvm.MethodName)) ∈ lw_all := lw_g (lw_at lw_m5 161 rfl) rfl
theorem q1176 : (Jvm.Cond.code ({ cls := "GridMarket", name := "bestFor", desc := "(LGridMarket$Offer;[Z)LGridMarket$Offer;" } : Jvm.MethodName) prog_1_method_54_code (8 : Nat) (Option.some (Jvm.ClassFile.FieldType.object "GridMarket$Offer"))) ∈ lw_all := lw_g (lw_at lw_m5 162 rfl) rfl
theorem q1177 : (Jvm.Cond.methodLink "GridMarket" (376 : Nat) ({ cls := "GridMarket", name := "exchange", desc := "(LGridMarket$Offer;LGridMarket$Offer;)I" } : Jvm.MethodName)) ∈ lw_all := lw_g (lw_at lw_m5 163 rfl) rfl
theorem q1178 : (Jvm.Cond.privateMethod ({ cls := "GridMarket", name := "exchange", desc := "(LGridMarket$Offer;LGridMarket$Offer;)I" } : Jvm.MethodName)) ∈ lw_tbl := lw_at lw_m5 164 rfl
theorem q1179 : (Jvm.Cond.instanceMethod ({ cls := "GridMarket", name := "exchange", desc := "(LGridMarket$Offer;LGridMarket$Offer;)I" } : Jvm.MethodName)) ∈ lw_all := lw_g (lw_at lw_m5 165 rfl) rfl
theorem q1180 : (Jvm.Cond.codeWith ({ cls := "GridMarket", name := "exchange", desc := "(LGridMarket$Offer;LGridMarket$Offer;)I" } : Jvm.MethodName) prog_1_method_56_code (5 : Nat) (Option.some Jvm.ClassFile.FieldType.int) [((2 : Nat), (58 : Nat), (61 : Nat), (364 : Nat))]) ∈ lw_all := lw_g (lw_at lw_m5 166 rfl) rfl
theorem q1181 : (Jvm.Cond.classLink "GridMarket" (364 : Nat) "GridMarket$Barred") ∈ lw_all := lw_g (lw_at lw_m5 167 rfl) rfl
theorem q1182 : (Jvm.Cond.methodLink "GridMarket" (368 : Nat) ({ cls := "GridMarket", name := "move", desc := "(III)V" } : Jvm.MethodName)) ∈ lw_all := lw_g (lw_at lw_m5 168 rfl) rfl
theorem q1183 : (Jvm.Cond.privateMethod ({ cls := "GridMarket", name := "move", desc := "(III)V" } : Jvm.MethodName)) ∈ lw_tbl := lw_at lw_m5 169 rfl
theorem q1184 : (Jvm.Cond.instanceMethod ({ cls := "GridMarket", name := "move", desc := "(III)V" } : Jvm.MethodName)) ∈ lw_all := lw_g (lw_at lw_m5 170 rfl) rfl
theorem q1185 : (Jvm.Cond.code ({ cls := "GridMarket", name := "move", desc := "(III)V" } : Jvm.MethodName) prog_1_method_55_code (5 : Nat) (Option.none : Option Jvm.ClassFile.FieldType)) ∈ lw_all := lw_g (lw_at lw_m5 171 rfl) rfl
theorem q1194 : (Jvm.Cond.methodLink "GridMarket" (366 : Nat) ({ cls := "GridMarket$Barred", name := "<init>", desc := "()V" } : Jvm.MethodName)) ∈ lw_all := lw_g (lw_at lw_m5 180 rfl) rfl
theorem q1201 : (Jvm.Cond.classLink "GridMarket" (383 : Nat) "GridMarket$Trade") ∈ lw_all := lw_g (lw_at lw_m5 187 rfl) rfl
theorem q1203 : (Jvm.Cond.methodLink "GridMarket" (385 : Nat) ({ cls := "GridMarket$Trade", name := "<init>", desc := "(LGridMarket$Offer;LGridMarket$Offer;II)V" } : Jvm.MethodName)) ∈ lw_all := lw_g (lw_at lw_m5 189 rfl) rfl
theorem q1209 : (Jvm.Cond.fieldLinkNest "GridMarket" (401 : Nat) "GridMarket$Trade" "buy" "LGridMarket$Offer;" "GridMarket") ∈ lw_tbl := lw_at lw_m5 195 rfl
theorem q1212 : (Jvm.Cond.fieldLinkNest "GridMarket" (407 : Nat) "GridMarket$Trade" "sell" "LGridMarket$Offer;" "GridMarket") ∈ lw_tbl := lw_at lw_m5 198 rfl
theorem q1214 : (Jvm.Cond.fieldLinkNest "GridMarket" (406 : Nat) "GridMarket$Trade" "price" "I" "GridMarket") ∈ lw_tbl := lw_at lw_m5 200 rfl
theorem q1217 : (Jvm.Cond.fieldLinkNest "GridMarket" (405 : Nat) "GridMarket$Trade" "units" "I" "GridMarket") ∈ lw_tbl := lw_at lw_m5 203 rfl
theorem q1231 : (Jvm.Cond.instanceMethod ({ cls := "GridMarket", name := "takeBack", desc := "(I)I" } : Jvm.MethodName)) ∈ lw_all := lw_g (lw_at lw_m5 217 rfl) rfl
theorem q1232 : (Jvm.Cond.selects "GridMarket" ({ cls := "GridMarket", name := "takeBack", desc := "(I)I" } : Jvm.MethodName) ({ cls := "GridMarket", name := "takeBack", desc := "(I)I" } : Jvm.MethodName)) ∈ lw_all := lw_g (lw_at lw_m5 218 rfl) rfl
theorem q1233 : (Jvm.Cond.code ({ cls := "GridMarket", name := "takeBack", desc := "(I)I" } : Jvm.MethodName) prog_1_method_10_code (4 : Nat) (Option.some Jvm.ClassFile.FieldType.int)) ∈ lw_all := lw_g (lw_at lw_m5 219 rfl) rfl
theorem q1238 : (Jvm.Cond.instanceMethod ({ cls := "GridMarket", name := "aid", desc := "(IIZII)I" } : Jvm.MethodName)) ∈ lw_all := lw_g (lw_at lw_m5 224 rfl) rfl
theorem q1239 : (Jvm.Cond.selects "GridMarket" ({ cls := "GridMarket", name := "aid", desc := "(IIZII)I" } : Jvm.MethodName) ({ cls := "GridMarket", name := "aid", desc := "(IIZII)I" } : Jvm.MethodName)) ∈ lw_all := lw_g (lw_at lw_m5 225 rfl) rfl
theorem q1240 : (Jvm.Cond.code ({ cls := "GridMarket", name := "aid", desc := "(IIZII)I" } : Jvm.MethodName) prog_1_method_11_code (6 : Nat) (Option.some Jvm.ClassFile.FieldType.int)) ∈ lw_all := lw_g (lw_at lw_m5 226 rfl) rfl
theorem q1241 : (Jvm.Cond.classLink "GridMarket" (155 : Nat) "GridMarket$Aid") ∈ lw_all := lw_g (lw_at lw_m5 227 rfl) rfl
theorem q1243 : (Jvm.Cond.methodLink "GridMarket" (157 : Nat) ({ cls := "GridMarket$Aid", name := "<init>", desc := "(IIZII)V" } : Jvm.MethodName)) ∈ lw_all := lw_g (lw_at lw_m5 229 rfl) rfl
theorem q1248 : (Jvm.Cond.fieldLinkNest "GridMarket" (413 : Nat) "GridMarket$Aid" "firm" "I" "GridMarket") ∈ lw_tbl := lw_at lw_m5 234 rfl
theorem q1250 : (Jvm.Cond.fieldLinkNest "GridMarket" (388 : Nat) "GridMarket$Aid" "hour" "I" "GridMarket") ∈ lw_tbl := lw_at lw_m5 236 rfl
theorem q1252 : (Jvm.Cond.fieldLinkNest "GridMarket" (389 : Nat) "GridMarket$Aid" "isMore" "Z" "GridMarket") ∈ lw_tbl := lw_at lw_m5 238 rfl
theorem q1254 : (Jvm.Cond.fieldLinkNest "GridMarket" (392 : Nat) "GridMarket$Aid" "price" "I" "GridMarket") ∈ lw_tbl := lw_at lw_m6 0 rfl
theorem q1256 : (Jvm.Cond.fieldLinkNest "GridMarket" (393 : Nat) "GridMarket$Aid" "units" "I" "GridMarket") ∈ lw_tbl := lw_at lw_m6 2 rfl
theorem q1272 : (Jvm.Cond.instanceMethod ({ cls := "GridMarket", name := "close", desc := "()I" } : Jvm.MethodName)) ∈ lw_all := lw_g (lw_at lw_m6 18 rfl) rfl
theorem q1273 : (Jvm.Cond.selects "GridMarket" ({ cls := "GridMarket", name := "close", desc := "()I" } : Jvm.MethodName) ({ cls := "GridMarket", name := "close", desc := "()I" } : Jvm.MethodName)) ∈ lw_all := lw_g (lw_at lw_m6 19 rfl) rfl
theorem q1274 : (Jvm.Cond.code ({ cls := "GridMarket", name := "close", desc := "()I" } : Jvm.MethodName) prog_1_method_12_code (1 : Nat) (Option.some Jvm.ClassFile.FieldType.int)) ∈ lw_all := lw_g (lw_at lw_m6 20 rfl) rfl
theorem q1279 : (Jvm.Cond.instanceMethod ({ cls := "GridMarket", name := "read", desc := "(IIIII)I" } : Jvm.MethodName)) ∈ lw_all := lw_g (lw_at lw_m6 25 rfl) rfl
theorem q1280 : (Jvm.Cond.selects "GridMarket" ({ cls := "GridMarket", name := "read", desc := "(IIIII)I" } : Jvm.MethodName) ({ cls := "GridMarket", name := "read", desc := "(IIIII)I" } : Jvm.MethodName)) ∈ lw_all := lw_g (lw_at lw_m6 26 rfl) rfl
theorem q1281 : (Jvm.Cond.code ({ cls := "GridMarket", name := "read", desc := "(IIIII)I" } : Jvm.MethodName) prog_1_method_13_code (7 : Nat) (Option.some Jvm.ClassFile.FieldType.int)) ∈ lw_all := lw_g (lw_at lw_m6 27 rfl) rfl
theorem q1282 : (Jvm.Cond.methodLink "GridMarket" (160 : Nat) ({ cls := "GridMarket", name := "closed", desc := "(I)LGridMarket$Day;" } : Jvm.MethodName)) ∈ lw_all := lw_g (lw_at lw_m6 28 rfl) rfl
theorem q1283 : (Jvm.Cond.privateMethod ({ cls := "GridMarket", name := "closed", desc := "(I)LGridMarket$Day;" } : Jvm.MethodName)) ∈ lw_tbl := lw_at lw_m6 29 rfl
theorem q1284 : (Jvm.Cond.instanceMethod ({ cls := "GridMarket", name := "closed", desc := "(I)LGridMarket$Day;" } : Jvm.MethodName)) ∈ lw_all := lw_g (lw_at lw_m6 30 rfl) rfl
theorem q1285 : (Jvm.Cond.code ({ cls := "GridMarket", name := "closed", desc := "(I)LGridMarket$Day;" } : Jvm.MethodName) prog_1_method_41_code (2 : Nat) (Option.some (Jvm.ClassFile.FieldType.object "GridMarket$Day"))) ∈ lw_all := lw_g (lw_at lw_m6 31 rfl) rfl
theorem q1286 : (Jvm.Cond.methodLink "GridMarket" (172 : Nat) ({ cls := "GridMarket$Day", name := "gap", desc := "(III)I" } : Jvm.MethodName)) ∈ lw_all := lw_g (lw_at lw_m6 32 rfl) rfl
theorem q1308 : (Jvm.Cond.instanceMethod ({ cls := "GridMarket", name := "run", desc := "(I)I" } : Jvm.MethodName)) ∈ lw_all := lw_g (lw_at lw_m6 54 rfl) rfl
theorem q1309 : (Jvm.Cond.selects "GridMarket" ({ cls := "GridMarket", name := "run", desc := "(I)I" } : Jvm.MethodName) ({ cls := "GridMarket", name := "run", desc := "(I)I" } : Jvm.MethodName)) ∈ lw_all := lw_g (lw_at lw_m6 55 rfl) rfl
theorem q1310 : (Jvm.Cond.code ({ cls := "GridMarket", name := "run", desc := "(I)I" } : Jvm.MethodName) prog_1_method_14_code (5 : Nat) (Option.some Jvm.ClassFile.FieldType.int)) ∈ lw_all := lw_g (lw_at lw_m6 56 rfl) rfl
theorem q1311 : (Jvm.Cond.methodLink "GridMarket" (179 : Nat) ({ cls := "GridMarket", name := "billOf", desc := "(LGridMarket$Day;I)I" } : Jvm.MethodName)) ∈ lw_all := lw_g (lw_at lw_m6 57 rfl) rfl
theorem q1312 : (Jvm.Cond.static ({ cls := "GridMarket", name := "billOf", desc := "(LGridMarket$Day;I)I" } : Jvm.MethodName)) ∈ lw_all := lw_g (lw_at lw_m6 58 rfl) rfl
theorem q1313 : (Jvm.Cond.code ({ cls := "GridMarket", name := "billOf", desc := "(LGridMarket$Day;I)I" } : Jvm.MethodName) prog_1_method_61_code (9 : Nat) (Option.some Jvm.ClassFile.FieldType.int)) ∈ lw_all := lw_g (lw_at lw_m6 59 rfl) rfl
theorem q1314 : (Jvm.Cond.methodLink "GridMarket" (410 : Nat) ({ cls := "GridMarket", name := "tradesOf", desc := "(LGridMarket$Day;I)I" } : Jvm.MethodName)) ∈ lw_all := lw_g (lw_at lw_m6 60 rfl) rfl
theorem q1315 : (Jvm.Cond.static ({ cls := "GridMarket", name := "tradesOf", desc := "(LGridMarket$Day;I)I" } : Jvm.MethodName)) ∈ lw_all := lw_g (lw_at lw_m6 61 rfl) rfl
theorem q1316 : (Jvm.Cond.code ({ cls := "GridMarket", name := "tradesOf", desc := "(LGridMarket$Day;I)I" } : Jvm.MethodName) prog_1_method_60_code (8 : Nat) (Option.some Jvm.ClassFile.FieldType.int)) ∈ lw_all := lw_g (lw_at lw_m6 62 rfl) rfl
theorem q1317 : (Jvm.Cond.methodLink "GridMarket" (246 : Nat) ({ cls := "GridMarket$Day", name := "gap", desc := "(I)I" } : Jvm.MethodName)) ∈ lw_all := lw_g (lw_at lw_m6 63 rfl) rfl
theorem q1322 : (Jvm.Cond.methodLink "GridMarket" (249 : Nat) ({ cls := "GridMarket", name := "gapPriceOf", desc := "(LGridMarket$Day;I)I" } : Jvm.MethodName)) ∈ lw_all := lw_g (lw_at lw_m6 68 rfl) rfl
theorem q1323 : (Jvm.Cond.static ({ cls := "GridMarket", name := "gapPriceOf", desc := "(LGridMarket$Day;I)I" } : Jvm.MethodName)) ∈ lw_all := lw_g (lw_at lw_m6 69 rfl) rfl
theorem q1324 : (Jvm.Cond.code ({ cls := "GridMarket", name := "gapPriceOf", desc := "(LGridMarket$Day;I)I" } : Jvm.MethodName) prog_1_method_59_code (9 : Nat) (Option.some Jvm.ClassFile.FieldType.int)) ∈ lw_all := lw_g (lw_at lw_m6 70 rfl) rfl
theorem q1325 : (Jvm.Cond.methodLink "GridMarket" (394 : Nat) ({ cls := "GridMarket", name := "used", desc := "(LGridMarket$Day;I)[I" } : Jvm.MethodName)) ∈ lw_all := lw_g (lw_at lw_m6 71 rfl) rfl
theorem q1326 : (Jvm.Cond.static ({ cls := "GridMarket", name := "used", desc := "(LGridMarket$Day;I)[I" } : Jvm.MethodName)) ∈ lw_all := lw_g (lw_at lw_m6 72 rfl) rfl
theorem q1327 : (Jvm.Cond.code ({ cls := "GridMarket", name := "used", desc := "(LGridMarket$Day;I)[I" } : Jvm.MethodName) prog_1_method_58_code (10 : Nat) (Option.some (Jvm.ClassFile.FieldType.array Jvm.ClassFile.FieldType.int))) ∈ lw_all := lw_g (lw_at lw_m6 73 rfl) rfl
theorem q1328 : (Jvm.Cond.methodLink "GridMarket" (189 : Nat) ({ cls := "GridMarket", name := "fail", desc := "()I" } : Jvm.MethodName)) ∈ lw_all := lw_g (lw_at lw_m6 74 rfl) rfl
theorem q1329 : (Jvm.Cond.privateMethod ({ cls := "GridMarket", name := "fail", desc := "()I" } : Jvm.MethodName)) ∈ lw_tbl := lw_at lw_m6 75 rfl
theorem q1330 : (Jvm.Cond.instanceMethod ({ cls := "GridMarket", name := "fail", desc := "()I" } : Jvm.MethodName)) ∈ lw_all := lw_g (lw_at lw_m6 76 rfl) rfl
theorem q1331 : (Jvm.Cond.code ({ cls := "GridMarket", name := "fail", desc := "()I" } : Jvm.MethodName) prog_1_method_62_code (9 : Nat) (Option.some Jvm.ClassFile.FieldType.int)) ∈ lw_all := lw_g (lw_at lw_m6 77 rfl) rfl
theorem q1332 : (Jvm.Cond.methodLink "GridMarket" (414 : Nat) ({ cls := "GridMarket", name := "lowest", desc := "()I" } : Jvm.MethodName)) ∈ lw_all := lw_g (lw_at lw_m6 78 rfl) rfl
theorem q1333 : (Jvm.Cond.privateMethod ({ cls := "GridMarket", name := "lowest", desc := "()I" } : Jvm.MethodName)) ∈ lw_tbl := lw_at lw_m6 79 rfl
theorem q1334 : (Jvm.Cond.instanceMethod ({ cls := "GridMarket", name := "lowest", desc := "()I" } : Jvm.MethodName)) ∈ lw_all := lw_g (lw_at lw_m6 80 rfl) rfl
theorem q1335 : (Jvm.Cond.code ({ cls := "GridMarket", name := "lowest", desc := "()I" } : Jvm.MethodName) prog_1_method_63_code (3 : Nat) (Option.some Jvm.ClassFile.FieldType.int)) ∈ lw_all := lw_g (lw_at lw_m6 81 rfl) rfl
theorem q1340 : (Jvm.Cond.instanceMethod ({ cls := "GridMarket", name := "price", desc := "(II)I" } : Jvm.MethodName)) ∈ lw_all := lw_g (lw_at lw_m6 86 rfl) rfl
theorem q1341 : (Jvm.Cond.selects "GridMarket" ({ cls := "GridMarket", name := "price", desc := "(II)I" } : Jvm.MethodName) ({ cls := "GridMarket", name := "price", desc := "(II)I" } : Jvm.MethodName)) ∈ lw_all := lw_g (lw_at lw_m6 87 rfl) rfl
theorem q1342 : (Jvm.Cond.code ({ cls := "GridMarket", name := "price", desc := "(II)I" } : Jvm.MethodName) prog_1_method_17_code (3 : Nat) (Option.some Jvm.ClassFile.FieldType.int)) ∈ lw_all := lw_g (lw_at lw_m6 88 rfl) rfl
theorem q1343 : (Jvm.Cond.methodLink "GridMarket" (192 : Nat) ({ cls := "GridMarket", name := "cleared", desc := "()LGridMarket$Result;" } : Jvm.MethodName)) ∈ lw_all := lw_g (lw_at lw_m6 89 rfl) rfl
theorem q1344 : (Jvm.Cond.privateMethod ({ cls := "GridMarket", name := "cleared", desc := "()LGridMarket$Result;" } : Jvm.MethodName)) ∈ lw_tbl := lw_at lw_m6 90 rfl
theorem q1345 : (Jvm.Cond.instanceMethod ({ cls := "GridMarket", name := "cleared", desc := "()LGridMarket$Result;" } : Jvm.MethodName)) ∈ lw_all := lw_g (lw_at lw_m6 91 rfl) rfl
theorem q1346 : (Jvm.Cond.code ({ cls := "GridMarket", name := "cleared", desc := "()LGridMarket$Result;" } : Jvm.MethodName) prog_1_method_42_code (1 : Nat) (Option.some (Jvm.ClassFile.FieldType.object "GridMarket$Result"))) ∈ lw_all := lw_g (lw_at lw_m6 92 rfl) rfl
theorem q1351 : (Jvm.Cond.instanceMethod ({ cls := "GridMarket", name := "net", desc := "(II)I" } : Jvm.MethodName)) ∈ lw_all := lw_g (lw_at lw_m6 97 rfl) rfl
theorem q1352 : (Jvm.Cond.selects "GridMarket" ({ cls := "GridMarket", name := "net", desc := "(II)I" } : Jvm.MethodName) ({ cls := "GridMarket", name := "net", desc := "(II)I" } : Jvm.MethodName)) ∈ lw_all := lw_g (lw_at lw_m6 98 rfl) rfl
theorem q1353 : (Jvm.Cond.code ({ cls := "GridMarket", name := "net", desc := "(II)I" } : Jvm.MethodName) prog_1_method_18_code (3 : Nat) (Option.some Jvm.ClassFile.FieldType.int)) ∈ lw_all := lw_g (lw_at lw_m6 99 rfl) rfl
theorem q1358 : (Jvm.Cond.instanceMethod ({ cls := "GridMarket", name := "flow", desc := "(II)I" } : Jvm.MethodName)) ∈ lw_all := lw_g (lw_at lw_m6 104 rfl) rfl
theorem q1359 : (Jvm.Cond.selects "GridMarket" ({ cls := "GridMarket", name := "flow", desc := "(II)I" } : Jvm.MethodName) ({ cls := "GridMarket", name := "flow", desc := "(II)I" } : Jvm.MethodName)) ∈ lw_all := lw_g (lw_at lw_m6 105 rfl) rfl
theorem q1360 : (Jvm.Cond.code ({ cls := "GridMarket", name := "flow", desc := "(II)I" } : Jvm.MethodName) prog_1_method_19_code (3 : Nat) (Option.some Jvm.ClassFile.FieldType.int)) ∈ lw_all := lw_g (lw_at lw_m6 106 rfl) rfl
theorem q1365 : (Jvm.Cond.instanceMethod ({ cls := "GridMarket", name := "taken", desc := "(I)I" } : Jvm.MethodName)) ∈ lw_all := lw_g (lw_at lw_m6 111 rfl) rfl
theorem q1366 : (Jvm.Cond.selects "GridMarket" ({ cls := "GridMarket", name := "taken", desc := "(I)I" } : Jvm.MethodName) ({ cls := "GridMarket", name := "taken", desc := "(I)I" } : Jvm.MethodName)) ∈ lw_all := lw_g (lw_at lw_m6 112 rfl) rfl
theorem q1367 : (Jvm.Cond.code ({ cls := "GridMarket", name := "taken", desc := "(I)I" } : Jvm.MethodName) prog_1_method_20_code (2 : Nat) (Option.some Jvm.ClassFile.FieldType.int)) ∈ lw_all := lw_g (lw_at lw_m6 113 rfl) rfl
theorem q1372 : (Jvm.Cond.instanceMethod ({ cls := "GridMarket", name := "isTaken", desc := "(I)Z" } : Jvm.MethodName)) ∈ lw_all := lw_g (lw_at lw_m6 118 rfl) rfl
theorem q1373 : (Jvm.Cond.selects "GridMarket" ({ cls := "GridMarket", name := "isTaken", desc := "(I)Z" } : Jvm.MethodName) ({ cls := "GridMarket", name := "isTaken", desc := "(I)Z" } : Jvm.MethodName)) ∈ lw_all := lw_g (lw_at lw_m6 119 rfl) rfl
theorem q1374 : (Jvm.Cond.code ({ cls := "GridMarket", name := "isTaken", desc := "(I)Z" } : Jvm.MethodName) prog_1_method_21_code (2 : Nat) (Option.some Jvm.ClassFile.FieldType.boolean)) ∈ lw_all := lw_g (lw_at lw_m6 120 rfl) rfl
theorem q1379 : (Jvm.Cond.instanceMethod ({ cls := "GridMarket", name := "gain", desc := "(I)I" } : Jvm.MethodName)) ∈ lw_all := lw_g (lw_at lw_m6 125 rfl) rfl
theorem q1380 : (Jvm.Cond.selects "GridMarket" ({ cls := "GridMarket", name := "gain", desc := "(I)I" } : Jvm.MethodName) ({ cls := "GridMarket", name := "gain", desc := "(I)I" } : Jvm.MethodName)) ∈ lw_all := lw_g (lw_at lw_m6 126 rfl) rfl
theorem q1381 : (Jvm.Cond.code ({ cls := "GridMarket", name := "gain", desc := "(I)I" } : Jvm.MethodName) prog_1_method_22_code (2 : Nat) (Option.some Jvm.ClassFile.FieldType.int)) ∈ lw_all := lw_g (lw_at lw_m6 127 rfl) rfl
theorem q1386 : (Jvm.Cond.instanceMethod ({ cls := "GridMarket", name := "worthAnew", desc := "()I" } : Jvm.MethodName)) ∈ lw_all := lw_g (lw_at lw_m6 132 rfl) rfl
theorem q1387 : (Jvm.Cond.selects "GridMarket" ({ cls := "GridMarket", name := "worthAnew", desc := "()I" } : Jvm.MethodName) ({ cls := "GridMarket", name := "worthAnew", desc := "()I" } : Jvm.MethodName)) ∈ lw_all := lw_g (lw_at lw_m6 133 rfl) rfl
theorem q1388 : (Jvm.Cond.code ({ cls := "GridMarket", name := "worthAnew", desc := "()I" } : Jvm.MethodName) prog_1_method_23_code (4 : Nat) (Option.some Jvm.ClassFile.FieldType.int)) ∈ lw_all := lw_g (lw_at lw_m6 134 rfl) rfl
theorem q1393 : (Jvm.Cond.instanceMethod ({ cls := "GridMarket", name := "given", desc := "(I)I" } : Jvm.MethodName)) ∈ lw_all := lw_g (lw_at lw_m6 139 rfl) rfl
theorem q1394 : (Jvm.Cond.selects "GridMarket" ({ cls := "GridMarket", name := "given", desc := "(I)I" } : Jvm.MethodName) ({ cls := "GridMarket", name := "given", desc := "(I)I" } : Jvm.MethodName)) ∈ lw_all := lw_g (lw_at lw_m6 140 rfl) rfl
theorem q1395 : (Jvm.Cond.code ({ cls := "GridMarket", name := "given", desc := "(I)I" } : Jvm.MethodName) prog_1_method_24_code (2 : Nat) (Option.some Jvm.ClassFile.FieldType.int)) ∈ lw_all := lw_g (lw_at lw_m6 141 rfl) rfl
theorem q1400 : (Jvm.Cond.instanceMethod ({ cls := "GridMarket", name := "left", desc := "(I)I" } : Jvm.MethodName)) ∈ lw_all := lw_g (lw_at lw_m6 146 rfl) rfl
theorem q1401 : (Jvm.Cond.selects "GridMarket" ({ cls := "GridMarket", name := "left", desc := "(I)I" } : Jvm.MethodName) ({ cls := "GridMarket", name := "left", desc := "(I)I" } : Jvm.MethodName)) ∈ lw_all := lw_g (lw_at lw_m6 147 rfl) rfl
theorem q1402 : (Jvm.Cond.code ({ cls := "GridMarket", name := "left", desc := "(I)I" } : Jvm.MethodName) prog_1_method_25_code (2 : Nat) (Option.some Jvm.ClassFile.FieldType.int)) ∈ lw_all := lw_g (lw_at lw_m6 148 rfl) rfl
theorem q1407 : (Jvm.Cond.instanceMethod ({ cls := "GridMarket", name := "plan", desc := "(IIII)I" } : Jvm.MethodName)) ∈ lw_all := lw_g (lw_at lw_m6 153 rfl) rfl
theorem q1408 : (Jvm.Cond.selects "GridMarket" ({ cls := "GridMarket", name := "plan", desc := "(IIII)I" } : Jvm.MethodName) ({ cls := "GridMarket", name := "plan", desc := "(IIII)I" } : Jvm.MethodName)) ∈ lw_all := lw_g (lw_at lw_m6 154 rfl) rfl
theorem q1409 : (Jvm.Cond.code ({ cls := "GridMarket", name := "plan", desc := "(IIII)I" } : Jvm.MethodName) prog_1_method_26_code (6 : Nat) (Option.some Jvm.ClassFile.FieldType.int)) ∈ lw_all := lw_g (lw_at lw_m6 155 rfl) rfl
theorem q1410 : (Jvm.Cond.methodLink "GridMarket" (243 : Nat) ({ cls := "GridMarket$Day", name := "plan", desc := "(III)I" } : Jvm.MethodName)) ∈ lw_all := lw_g (lw_at lw_m6 156 rfl) rfl
theorem q1415 : (Jvm.Cond.instanceMethod ({ cls := "GridMarket", name := "gap", desc := "(II)I" } : Jvm.MethodName)) ∈ lw_all := lw_g (lw_at lw_m6 161 rfl) rfl
theorem q1416 : (Jvm.Cond.selects "GridMarket" ({ cls := "GridMarket", name := "gap", desc := "(II)I" } : Jvm.MethodName) ({ cls := "GridMarket", name := "gap", desc := "(II)I" } : Jvm.MethodName)) ∈ lw_all := lw_g (lw_at lw_m6 162 rfl) rfl
theorem q1417 : (Jvm.Cond.code ({ cls := "GridMarket", name := "gap", desc := "(II)I" } : Jvm.MethodName) prog_1_method_27_code (4 : Nat) (Option.some Jvm.ClassFile.FieldType.int)) ∈ lw_all := lw_g (lw_at lw_m6 163 rfl) rfl
theorem q1422 : (Jvm.Cond.instanceMethod ({ cls := "GridMarket", name := "gapPrice", desc := "(II)I" } : Jvm.MethodName)) ∈ lw_all := lw_g (lw_at lw_m6 168 rfl) rfl
theorem q1423 : (Jvm.Cond.selects "GridMarket" ({ cls := "GridMarket", name := "gapPrice", desc := "(II)I" } : Jvm.MethodName) ({ cls := "GridMarket", name := "gapPrice", desc := "(II)I" } : Jvm.MethodName)) ∈ lw_all := lw_g (lw_at lw_m6 169 rfl) rfl
theorem q1424 : (Jvm.Cond.code ({ cls := "GridMarket", name := "gapPrice", desc := "(II)I" } : Jvm.MethodName) prog_1_method_28_code (4 : Nat) (Option.some Jvm.ClassFile.FieldType.int)) ∈ lw_all := lw_g (lw_at lw_m6 170 rfl) rfl
theorem q1429 : (Jvm.Cond.instanceMethod ({ cls := "GridMarket", name := "bill", desc := "(II)I" } : Jvm.MethodName)) ∈ lw_all := lw_g (lw_at lw_m6 175 rfl) rfl
theorem q1430 : (Jvm.Cond.selects "GridMarket" ({ cls := "GridMarket", name := "bill", desc := "(II)I" } : Jvm.MethodName) ({ cls := "GridMarket", name := "bill", desc := "(II)I" } : Jvm.MethodName)) ∈ lw_all := lw_g (lw_at lw_m6 176 rfl) rfl
theorem q1431 : (Jvm.Cond.code ({ cls := "GridMarket", name := "bill", desc := "(II)I" } : Jvm.MethodName) prog_1_method_29_code (4 : Nat) (Option.some Jvm.ClassFile.FieldType.int)) ∈ lw_all := lw_g (lw_at lw_m6 177 rfl) rfl
theorem q1436 : (Jvm.Cond.instanceMethod ({ cls := "GridMarket", name := "settled", desc := "(II)I" } : Jvm.MethodName)) ∈ lw_all := lw_g (lw_at lw_m6 182 rfl) rfl
theorem q1437 : (Jvm.Cond.selects "GridMarket" ({ cls := "GridMarket", name := "settled", desc := "(II)I" } : Jvm.MethodName) ({ cls := "GridMarket", name := "settled", desc := "(II)I" } : Jvm.MethodName)) ∈ lw_all := lw_g (lw_at lw_m6 183 rfl) rfl
theorem q1438 : (Jvm.Cond.code ({ cls := "GridMarket", name := "settled", desc := "(II)I" } : Jvm.MethodName) prog_1_method_30_code (4 : Nat) (Option.some Jvm.ClassFile.FieldType.int)) ∈ lw_all := lw_g (lw_at lw_m6 184 rfl) rfl
theorem q1443 : (Jvm.Cond.instanceMethod ({ cls := "GridMarket", name := "account", desc := "(I)I" } : Jvm.MethodName)) ∈ lw_all := lw_g (lw_at lw_m6 189 rfl) rfl
theorem q1444 : (Jvm.Cond.selects "GridMarket" ({ cls := "GridMarket", name := "account", desc := "(I)I" } : Jvm.MethodName) ({ cls := "GridMarket", name := "account", desc := "(I)I" } : Jvm.MethodName)) ∈ lw_all := lw_g (lw_at lw_m6 190 rfl) rfl
theorem q1445 : (Jvm.Cond.code ({ cls := "GridMarket", name := "account", desc := "(I)I" } : Jvm.MethodName) prog_1_method_31_code (2 : Nat) (Option.some Jvm.ClassFile.FieldType.int)) ∈ lw_all := lw_g (lw_at lw_m6 191 rfl) rfl
theorem q1450 : (Jvm.Cond.instanceMethod ({ cls := "GridMarket", name := "hasFailed", desc := "(I)Z" } : Jvm.MethodName)) ∈ lw_all := lw_g (lw_at lw_m6 196 rfl) rfl
theorem q1451 : (Jvm.Cond.selects "GridMarket" ({ cls := "GridMarket", name := "hasFailed", desc := "(I)Z" } : Jvm.MethodName) ({ cls := "GridMarket", name := "hasFailed", desc := "(I)Z" } : Jvm.MethodName)) ∈ lw_all := lw_g (lw_at lw_m6 197 rfl) rfl
theorem q1452 : (Jvm.Cond.code ({ cls := "GridMarket", name := "hasFailed", desc := "(I)Z" } : Jvm.MethodName) prog_1_method_32_code (2 : Nat) (Option.some Jvm.ClassFile.FieldType.boolean)) ∈ lw_all := lw_g (lw_at lw_m6 198 rfl) rfl
theorem q1964 : (Jvm.Cond.castable "GridMarket" "java/lang/Object") ∈ lw_tbl := lw_at lw_m8 230 rfl
theorem in_X1 : ∀ w ∈ wsX10, w ∈ lw_all := lw_in wsX10 [195, 197, 199, 201, 203, 205, 207] (by decide +kernel) (by decide +kernel)
