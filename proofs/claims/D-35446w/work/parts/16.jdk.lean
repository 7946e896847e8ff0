set_option maxRecDepth 100000
theorem bI_fit {c : Prop} [Decidable c] : fits .boolean (.int (bI c)) = true := by
  by_cases h : c <;> simp only [bI, h, if_true, if_false] <;> rfl
theorem ga_El.up {h : ga_H} {E : String} {v b : Nat} {x : va_E} (hv : ga_El h E v) (hb : v ≠ b) : ga_El (ga_up h b x) E v := by
  rcases hv with ⟨ci, fs, r, h1, h2, h3⟩ | ⟨e, fs, h1⟩
  · exact Or.inl ⟨ci, fs, r, (ga_up_n hb).trans h1, h2, h3⟩
  · exact Or.inr ⟨e, fs, (ga_up_n hb).trans h1⟩
theorem ga_El.upO {h : ga_H} {E : String} {v b ci : Nat} {fs fs' : List Value} (hv : ga_El h E v) (hb : h b = some (ga_O ci fs)) : ga_El (ga_up h b (ga_O ci fs')) E v := by
  by_cases e : v = b
  · subst e
    rcases hv with ⟨ci', fs2, r, h1, h2, h3⟩ | ⟨_, fs2, h1⟩
    · cases hb.symm.trans h1
      exact Or.inl ⟨_, _, r, ga_up_s, h2, h3⟩
    · rw [hb] at h1
      cases h1
      rename_i e1
      exact Or.inr ⟨e1, _, ga_up_s⟩
  · exact hv.up e
def jf_bc (x : Int32) : Int32 := (((((((x - (((x.toUInt32 >>> ((1 : Int32).toUInt32 &&& Int32.toUInt32 31)).toInt32) &&& 1431655765)) &&& 858993459) + ((((x - (((x.toUInt32 >>> ((1 : Int32).toUInt32 &&& Int32.toUInt32 31)).toInt32) &&& 1431655765)).toUInt32 >>> ((2 : Int32).toUInt32 &&& Int32.toUInt32 31)).toInt32) &&& 858993459)) + (((((x - (((x.toUInt32 >>> ((1 : Int32).toUInt32 &&& Int32.toUInt32 31)).toInt32) &&& 1431655765)) &&& 858993459) + ((((x - (((x.toUInt32 >>> ((1 : Int32).toUInt32 &&& Int32.toUInt32 31)).toInt32) &&& 1431655765)).toUInt32 >>> ((2 : Int32).toUInt32 &&& Int32.toUInt32 31)).toInt32) &&& 858993459)).toUInt32 >>> ((4 : Int32).toUInt32 &&& Int32.toUInt32 31)).toInt32)) &&& 252645135) + (((((((x - (((x.toUInt32 >>> ((1 : Int32).toUInt32 &&& Int32.toUInt32 31)).toInt32) &&& 1431655765)) &&& 858993459) + ((((x - (((x.toUInt32 >>> ((1 : Int32).toUInt32 &&& Int32.toUInt32 31)).toInt32) &&& 1431655765)).toUInt32 >>> ((2 : Int32).toUInt32 &&& Int32.toUInt32 31)).toInt32) &&& 858993459)) + (((((x - (((x.toUInt32 >>> ((1 : Int32).toUInt32 &&& Int32.toUInt32 31)).toInt32) &&& 1431655765)) &&& 858993459) + ((((x - (((x.toUInt32 >>> ((1 : Int32).toUInt32 &&& Int32.toUInt32 31)).toInt32) &&& 1431655765)).toUInt32 >>> ((2 : Int32).toUInt32 &&& Int32.toUInt32 31)).toInt32) &&& 858993459)).toUInt32 >>> ((4 : Int32).toUInt32 &&& Int32.toUInt32 31)).toInt32)) &&& 252645135).toUInt32 >>> ((8 : Int32).toUInt32 &&& Int32.toUInt32 31)).toInt32)) + ((((((((x - (((x.toUInt32 >>> ((1 : Int32).toUInt32 &&& Int32.toUInt32 31)).toInt32) &&& 1431655765)) &&& 858993459) + ((((x - (((x.toUInt32 >>> ((1 : Int32).toUInt32 &&& Int32.toUInt32 31)).toInt32) &&& 1431655765)).toUInt32 >>> ((2 : Int32).toUInt32 &&& Int32.toUInt32 31)).toInt32) &&& 858993459)) + (((((x - (((x.toUInt32 >>> ((1 : Int32).toUInt32 &&& Int32.toUInt32 31)).toInt32) &&& 1431655765)) &&& 858993459) + ((((x - (((x.toUInt32 >>> ((1 : Int32).toUInt32 &&& Int32.toUInt32 31)).toInt32) &&& 1431655765)).toUInt32 >>> ((2 : Int32).toUInt32 &&& Int32.toUInt32 31)).toInt32) &&& 858993459)).toUInt32 >>> ((4 : Int32).toUInt32 &&& Int32.toUInt32 31)).toInt32)) &&& 252645135) + (((((((x - (((x.toUInt32 >>> ((1 : Int32).toUInt32 &&& Int32.toUInt32 31)).toInt32) &&& 1431655765)) &&& 858993459) + ((((x - (((x.toUInt32 >>> ((1 : Int32).toUInt32 &&& Int32.toUInt32 31)).toInt32) &&& 1431655765)).toUInt32 >>> ((2 : Int32).toUInt32 &&& Int32.toUInt32 31)).toInt32) &&& 858993459)) + (((((x - (((x.toUInt32 >>> ((1 : Int32).toUInt32 &&& Int32.toUInt32 31)).toInt32) &&& 1431655765)) &&& 858993459) + ((((x - (((x.toUInt32 >>> ((1 : Int32).toUInt32 &&& Int32.toUInt32 31)).toInt32) &&& 1431655765)).toUInt32 >>> ((2 : Int32).toUInt32 &&& Int32.toUInt32 31)).toInt32) &&& 858993459)).toUInt32 >>> ((4 : Int32).toUInt32 &&& Int32.toUInt32 31)).toInt32)) &&& 252645135).toUInt32 >>> ((8 : Int32).toUInt32 &&& Int32.toUInt32 31)).toInt32)).toUInt32 >>> ((16 : Int32).toUInt32 &&& Int32.toUInt32 31)).toInt32)) &&& 63
set_option maxHeartbeats 4000000 in
theorem jm_bc (l : Launch) (hl : l.stackTraces = false) (G : ga_X) (x : Int32) (h : ga_H) (n : Nat)  : ga_C l G yJ21_bitCount cJ21_bitCount 1 (some FieldType.int) ({ frames := 0, cells := 0, slots := 0, locals := 0 } : Room) [.int x] h n (fun v' h' n' => v' = some (.int (jf_bc x)) ∧ h' = h ∧ n' = n) ga_no := by
  refine ga_start hl rfl (Nat.le_of_ble_eq_true rfl) (fun Γ e X Y hnm hxt => ?_)
  subst e
  have X : ga_E Γ G RJ21 cJ21_bitCount 1 := X
  show ga Γ G h n 0 0 0 [(0, .int x)] []
  refine ga_iload_n X 0 dJ21_bitCount_0 rfl rfl ?_
  refine ga_iload_n X 0 dJ21_bitCount_1 rfl rfl ?_
  refine ga_iconst X (v := 1) dJ21_bitCount_2 (by decide) ?_
  refine ga_iushr X dJ21_bitCount_3 rfl ?_
  refine ga_ldcw X q1095 dJ21_bitCount_4 ?_
  refine ga_iand X dJ21_bitCount_7 ?_
  refine ga_isub X dJ21_bitCount_8 ?_
  refine ga_istore_n X [(0, .int (x - (((x.toUInt32 >>> ((1 : Int32).toUInt32 &&& Int32.toUInt32 31)).toInt32) &&& 1431655765)))] dJ21_bitCount_9 rfl (by decide) rfl ?_
  refine ga_iload_n X 0 dJ21_bitCount_10 rfl rfl ?_
  refine ga_ldcw X q1096 dJ21_bitCount_11 ?_
  refine ga_iand X dJ21_bitCount_14 ?_
  refine ga_iload_n X 0 dJ21_bitCount_15 rfl rfl ?_
  refine ga_iconst X (v := 2) dJ21_bitCount_16 (by decide) ?_
  refine ga_iushr X dJ21_bitCount_17 rfl ?_
  refine ga_ldcw X q1096 dJ21_bitCount_18 ?_
  refine ga_iand X dJ21_bitCount_21 ?_
  refine ga_iadd X dJ21_bitCount_22 ?_
  refine ga_istore_n X [(0, .int (((x - (((x.toUInt32 >>> ((1 : Int32).toUInt32 &&& Int32.toUInt32 31)).toInt32) &&& 1431655765)) &&& 858993459) + ((((x - (((x.toUInt32 >>> ((1 : Int32).toUInt32 &&& Int32.toUInt32 31)).toInt32) &&& 1431655765)).toUInt32 >>> ((2 : Int32).toUInt32 &&& Int32.toUInt32 31)).toInt32) &&& 858993459)))] dJ21_bitCount_23 rfl (by decide) rfl ?_
  refine ga_iload_n X 0 dJ21_bitCount_24 rfl rfl ?_
  refine ga_iload_n X 0 dJ21_bitCount_25 rfl rfl ?_
  refine ga_iconst X (v := 4) dJ21_bitCount_26 (by decide) ?_
  refine ga_iushr X dJ21_bitCount_27 rfl ?_
  refine ga_iadd X dJ21_bitCount_28 ?_
  refine ga_ldcw X q1097 dJ21_bitCount_29 ?_
  refine ga_iand X dJ21_bitCount_32 ?_
  refine ga_istore_n X [(0, .int (((((x - (((x.toUInt32 >>> ((1 : Int32).toUInt32 &&& Int32.toUInt32 31)).toInt32) &&& 1431655765)) &&& 858993459) + ((((x - (((x.toUInt32 >>> ((1 : Int32).toUInt32 &&& Int32.toUInt32 31)).toInt32) &&& 1431655765)).toUInt32 >>> ((2 : Int32).toUInt32 &&& Int32.toUInt32 31)).toInt32) &&& 858993459)) + (((((x - (((x.toUInt32 >>> ((1 : Int32).toUInt32 &&& Int32.toUInt32 31)).toInt32) &&& 1431655765)) &&& 858993459) + ((((x - (((x.toUInt32 >>> ((1 : Int32).toUInt32 &&& Int32.toUInt32 31)).toInt32) &&& 1431655765)).toUInt32 >>> ((2 : Int32).toUInt32 &&& Int32.toUInt32 31)).toInt32) &&& 858993459)).toUInt32 >>> ((4 : Int32).toUInt32 &&& Int32.toUInt32 31)).toInt32)) &&& 252645135))] dJ21_bitCount_33 rfl (by decide) rfl ?_
  refine ga_iload_n X 0 dJ21_bitCount_34 rfl rfl ?_
  refine ga_iload_n X 0 dJ21_bitCount_35 rfl rfl ?_
  refine ga_bipush X (v := 8) dJ21_bitCount_36 (by decide) ?_
  refine ga_iushr X dJ21_bitCount_38 rfl ?_
  refine ga_iadd X dJ21_bitCount_39 ?_
  refine ga_istore_n X [(0, .int ((((((x - (((x.toUInt32 >>> ((1 : Int32).toUInt32 &&& Int32.toUInt32 31)).toInt32) &&& 1431655765)) &&& 858993459) + ((((x - (((x.toUInt32 >>> ((1 : Int32).toUInt32 &&& Int32.toUInt32 31)).toInt32) &&& 1431655765)).toUInt32 >>> ((2 : Int32).toUInt32 &&& Int32.toUInt32 31)).toInt32) &&& 858993459)) + (((((x - (((x.toUInt32 >>> ((1 : Int32).toUInt32 &&& Int32.toUInt32 31)).toInt32) &&& 1431655765)) &&& 858993459) + ((((x - (((x.toUInt32 >>> ((1 : Int32).toUInt32 &&& Int32.toUInt32 31)).toInt32) &&& 1431655765)).toUInt32 >>> ((2 : Int32).toUInt32 &&& Int32.toUInt32 31)).toInt32) &&& 858993459)).toUInt32 >>> ((4 : Int32).toUInt32 &&& Int32.toUInt32 31)).toInt32)) &&& 252645135) + (((((((x - (((x.toUInt32 >>> ((1 : Int32).toUInt32 &&& Int32.toUInt32 31)).toInt32) &&& 1431655765)) &&& 858993459) + ((((x - (((x.toUInt32 >>> ((1 : Int32).toUInt32 &&& Int32.toUInt32 31)).toInt32) &&& 1431655765)).toUInt32 >>> ((2 : Int32).toUInt32 &&& Int32.toUInt32 31)).toInt32) &&& 858993459)) + (((((x - (((x.toUInt32 >>> ((1 : Int32).toUInt32 &&& Int32.toUInt32 31)).toInt32) &&& 1431655765)) &&& 858993459) + ((((x - (((x.toUInt32 >>> ((1 : Int32).toUInt32 &&& Int32.toUInt32 31)).toInt32) &&& 1431655765)).toUInt32 >>> ((2 : Int32).toUInt32 &&& Int32.toUInt32 31)).toInt32) &&& 858993459)).toUInt32 >>> ((4 : Int32).toUInt32 &&& Int32.toUInt32 31)).toInt32)) &&& 252645135).toUInt32 >>> ((8 : Int32).toUInt32 &&& Int32.toUInt32 31)).toInt32)))] dJ21_bitCount_40 rfl (by decide) rfl ?_
  refine ga_iload_n X 0 dJ21_bitCount_41 rfl rfl ?_
  refine ga_iload_n X 0 dJ21_bitCount_42 rfl rfl ?_
  refine ga_bipush X (v := 16) dJ21_bitCount_43 (by decide) ?_
  refine ga_iushr X dJ21_bitCount_45 rfl ?_
  refine ga_iadd X dJ21_bitCount_46 ?_
  refine ga_istore_n X [(0, .int (((((((x - (((x.toUInt32 >>> ((1 : Int32).toUInt32 &&& Int32.toUInt32 31)).toInt32) &&& 1431655765)) &&& 858993459) + ((((x - (((x.toUInt32 >>> ((1 : Int32).toUInt32 &&& Int32.toUInt32 31)).toInt32) &&& 1431655765)).toUInt32 >>> ((2 : Int32).toUInt32 &&& Int32.toUInt32 31)).toInt32) &&& 858993459)) + (((((x - (((x.toUInt32 >>> ((1 : Int32).toUInt32 &&& Int32.toUInt32 31)).toInt32) &&& 1431655765)) &&& 858993459) + ((((x - (((x.toUInt32 >>> ((1 : Int32).toUInt32 &&& Int32.toUInt32 31)).toInt32) &&& 1431655765)).toUInt32 >>> ((2 : Int32).toUInt32 &&& Int32.toUInt32 31)).toInt32) &&& 858993459)).toUInt32 >>> ((4 : Int32).toUInt32 &&& Int32.toUInt32 31)).toInt32)) &&& 252645135) + (((((((x - (((x.toUInt32 >>> ((1 : Int32).toUInt32 &&& Int32.toUInt32 31)).toInt32) &&& 1431655765)) &&& 858993459) + ((((x - (((x.toUInt32 >>> ((1 : Int32).toUInt32 &&& Int32.toUInt32 31)).toInt32) &&& 1431655765)).toUInt32 >>> ((2 : Int32).toUInt32 &&& Int32.toUInt32 31)).toInt32) &&& 858993459)) + (((((x - (((x.toUInt32 >>> ((1 : Int32).toUInt32 &&& Int32.toUInt32 31)).toInt32) &&& 1431655765)) &&& 858993459) + ((((x - (((x.toUInt32 >>> ((1 : Int32).toUInt32 &&& Int32.toUInt32 31)).toInt32) &&& 1431655765)).toUInt32 >>> ((2 : Int32).toUInt32 &&& Int32.toUInt32 31)).toInt32) &&& 858993459)).toUInt32 >>> ((4 : Int32).toUInt32 &&& Int32.toUInt32 31)).toInt32)) &&& 252645135).toUInt32 >>> ((8 : Int32).toUInt32 &&& Int32.toUInt32 31)).toInt32)) + ((((((((x - (((x.toUInt32 >>> ((1 : Int32).toUInt32 &&& Int32.toUInt32 31)).toInt32) &&& 1431655765)) &&& 858993459) + ((((x - (((x.toUInt32 >>> ((1 : Int32).toUInt32 &&& Int32.toUInt32 31)).toInt32) &&& 1431655765)).toUInt32 >>> ((2 : Int32).toUInt32 &&& Int32.toUInt32 31)).toInt32) &&& 858993459)) + (((((x - (((x.toUInt32 >>> ((1 : Int32).toUInt32 &&& Int32.toUInt32 31)).toInt32) &&& 1431655765)) &&& 858993459) + ((((x - (((x.toUInt32 >>> ((1 : Int32).toUInt32 &&& Int32.toUInt32 31)).toInt32) &&& 1431655765)).toUInt32 >>> ((2 : Int32).toUInt32 &&& Int32.toUInt32 31)).toInt32) &&& 858993459)).toUInt32 >>> ((4 : Int32).toUInt32 &&& Int32.toUInt32 31)).toInt32)) &&& 252645135) + (((((((x - (((x.toUInt32 >>> ((1 : Int32).toUInt32 &&& Int32.toUInt32 31)).toInt32) &&& 1431655765)) &&& 858993459) + ((((x - (((x.toUInt32 >>> ((1 : Int32).toUInt32 &&& Int32.toUInt32 31)).toInt32) &&& 1431655765)).toUInt32 >>> ((2 : Int32).toUInt32 &&& Int32.toUInt32 31)).toInt32) &&& 858993459)) + (((((x - (((x.toUInt32 >>> ((1 : Int32).toUInt32 &&& Int32.toUInt32 31)).toInt32) &&& 1431655765)) &&& 858993459) + ((((x - (((x.toUInt32 >>> ((1 : Int32).toUInt32 &&& Int32.toUInt32 31)).toInt32) &&& 1431655765)).toUInt32 >>> ((2 : Int32).toUInt32 &&& Int32.toUInt32 31)).toInt32) &&& 858993459)).toUInt32 >>> ((4 : Int32).toUInt32 &&& Int32.toUInt32 31)).toInt32)) &&& 252645135).toUInt32 >>> ((8 : Int32).toUInt32 &&& Int32.toUInt32 31)).toInt32)).toUInt32 >>> ((16 : Int32).toUInt32 &&& Int32.toUInt32 31)).toInt32)))] dJ21_bitCount_47 rfl (by decide) rfl ?_
  refine ga_iload_n X 0 dJ21_bitCount_48 rfl rfl ?_
  refine ga_bipush X (v := 63) dJ21_bitCount_49 (by decide) ?_
  refine ga_iand X dJ21_bitCount_51 ?_
  exact ga_iret X Y dJ21_bitCount_52 (by first | decide | omega | (dsimp only; omega)) (by first | decide | omega | (dsimp only; omega)) ⟨rfl, rfl, rfl⟩
set_option maxHeartbeats 4000000 in
theorem jm_cki (l : Launch) (hl : l.stackTraces = false) (G : ga_X) (j k : Nat) (h : ga_H) (n : Nat) (hj : j < k) (hk : k < 2147483648) : ga_C l G yJ15_checkIndex cJ15_checkIndex 3 (some FieldType.int) ({ frames := 0, cells := 0, slots := 0, locals := 0 } : Room) [.int (nI j), .int (nI k), .null] h n (fun v' h' n' => v' = some (.int (nI j)) ∧ h' = h ∧ n' = n) ga_no := by
  refine ga_start hl rfl (Nat.le_of_ble_eq_true rfl) (fun Γ e X Y hnm hxt => ?_)
  subst e
  have X : ga_E Γ G RJ15 cJ15_checkIndex 3 := X
  show ga Γ G h n 0 0 0 [(0, .int (nI j)), (1, .int (nI k)), (2, .null)] []
  refine ga_iload_n X 0 dJ15_checkIndex_0 rfl rfl ?_
  refine ga_if_lt X (tgt := 9) dJ15_checkIndex_1 (by decide) (fun c_1 => ?_) (fun c_1 => ?_)
  · exact absurd c_1 (nI_pos (by omega))
  · refine ga_iload_n X 0 dJ15_checkIndex_4 rfl rfl ?_
    refine ga_iload_n X 1 dJ15_checkIndex_5 rfl rfl ?_
    refine ga_icmp_lt X (tgt := 16) dJ15_checkIndex_6 (by decide) (fun c_6 => ?_) (fun c_6 => ?_)
    · refine ga_iload_n X 0 dJ15_checkIndex_16 rfl rfl ?_
      exact ga_iret X Y dJ15_checkIndex_17 (by first | decide | omega | (dsimp only; omega)) (by first | decide | omega | (dsimp only; omega)) ⟨rfl, rfl, rfl⟩
    · exact absurd (nI_lt hj hk) c_6
set_option maxHeartbeats 4000000 in
theorem jm_ck (l : Launch) (hl : l.stackTraces = false) (G : ga_X) (j k : Nat) (h : ga_H) (n : Nat) (hj : j < k) (hk : k < 2147483648) : ga_C l G yJ14_checkIndex cJ14_checkIndex 2 (some FieldType.int) ({ frames := 1, cells := 0, slots := 0, locals := 22 } : Room) [.int (nI j), .int (nI k)] h n (fun v' h' n' => v' = some (.int (nI j)) ∧ h' = h ∧ n' = n) ga_no := by
  refine ga_start hl rfl (Nat.le_of_ble_eq_true rfl) (fun Γ e X Y hnm hxt => ?_)
  subst e
  have X : ga_E Γ G RJ14 cJ14_checkIndex 2 := X
  show ga Γ G h n 0 0 0 [(0, .int (nI j)), (1, .int (nI k))] []
  refine ga_iload_n X 0 dJ14_checkIndex_0 rfl rfl ?_
  refine ga_iload_n X 1 dJ14_checkIndex_1 rfl rfl ?_
  refine ga_null X dJ14_checkIndex_2 ?_
  refine ga_callS X Y (jm_cki _ X.tr G j k _ _ hj hk) wJ14_105 ⟨Nat.le_of_ble_eq_true rfl, Nat.le_of_ble_eq_true rfl⟩ ⟨(by first | decide | omega | (dsimp only; omega)), (by first | decide | omega | (dsimp only; omega))⟩ rfl (Nat.le_of_ble_eq_true rfl) dJ14_checkIndex_3 (fun v1 h1 n1 hq _ => ?_) (fun _ _ _ q _ => q.elim)
  obtain ⟨rfl, hq2, hq3⟩ := hq
  rw [hq2, hq3]
  show ga Γ G _ _ _ _ 6 [(0, .int (nI j)), (1, .int (nI k))] (.int (nI j) :: [])
  exact ga_iret X Y dJ14_checkIndex_6 (by first | decide | omega | (dsimp only; omega)) (by first | decide | omega | (dsimp only; omega)) ⟨rfl, rfl, rfl⟩
set_option maxHeartbeats 4000000 in
theorem jm_init0 (l : Launch) (hl : l.stackTraces = false) (G : ga_X) (a : Nat) (h : ga_H) (n : Nat)  : ga_C l G yJ0_init cJ0_init 1 none ({ frames := 1, cells := 0, slots := 0, locals := 20 } : Room) [.ref a] h n (fun v' h' n' => v' = none ∧ h' = h ∧ n' = n) ga_no := by
  refine ga_start hl rfl (Nat.le_of_ble_eq_true rfl) (fun Γ e X Y hnm hxt => ?_)
  subst e
  have X : ga_E Γ G RJ0 cJ0_init 1 := X
  show ga Γ G h n 0 0 0 [(0, .ref a)] []
  refine ga_aload_n X 0 dJ0_init_0 rfl rfl ?_
  refine ga_objInit X Y q111 q98 q99 (Nat.le_of_ble_eq_true rfl) (by first | decide | omega | (dsimp only; omega)) (by first | decide | omega | (dsimp only; omega)) dJ0_init_1 ?_
  exact ga_vret X Y dJ0_init_4 (by first | decide | omega | (dsimp only; omega)) (by first | decide | omega | (dsimp only; omega)) ⟨rfl, rfl, rfl⟩
set_option maxHeartbeats 4000000 in
theorem jm_init1 (l : Launch) (hl : l.stackTraces = false) (G : ga_X) (a : Nat) (h : ga_H) (n : Nat) (hL : h a = some (ga_O 11 [.int 0, .null, .int 0])) (hA : G.2.1 ≤ a) : ga_C l G yJ1_init cJ1_init 1 none ({ frames := 2, cells := 0, slots := 0, locals := 40 } : Room) [.ref a] h n (fun v' h' n' => v' = none ∧ h' = ga_up h a (ga_O 11 [.int 0, .null, .int 0]) ∧ n' = n) ga_no := by
  refine ga_start hl rfl (Nat.le_of_ble_eq_true rfl) (fun Γ e X Y hnm hxt => ?_)
  subst e
  have X : ga_E Γ G RJ1 cJ1_init 1 := X
  show ga Γ G h n 0 0 0 [(0, .ref a)] []
  refine ga_aload_n X 0 dJ1_init_0 rfl rfl ?_
  refine ga_callI X Y (jm_init0 _ X.tr G a _ _) wJ1_1 ⟨Nat.le_of_ble_eq_true rfl, Nat.le_of_ble_eq_true rfl⟩ ⟨(by first | decide | omega | (dsimp only; omega)), (by first | decide | omega | (dsimp only; omega))⟩ rfl (Nat.le_of_ble_eq_true rfl) dJ1_init_1 (fun v1 h1 n1 hq _ => ?_)
  obtain ⟨rfl, hq2, hq3⟩ := hq
  rw [hq2, hq3]
  show ga Γ G _ _ _ _ 4 [(0, .ref a)] ([])
  refine ga_aload_n X 0 dJ1_init_4 rfl rfl ?_
  refine ga_iconst X (v := 0) dJ1_init_5 (by decide) ?_
  refine ga_putE X in_J2 tyJ2 tyJ2_ok nmJ2 (ci := 11) rfl 0 (by decide) q118 rfl rfl hL hA rfl rfl (Nat.le_of_ble_eq_true rfl) (fs' := [.int 0, .null, .int 0]) rfl dJ1_init_6 ?_
  exact ga_vret X Y dJ1_init_9 (by first | decide | omega | (dsimp only; omega)) (by first | decide | omega | (dsimp only; omega)) ⟨rfl, rfl, rfl⟩
set_option maxHeartbeats 4000000 in
theorem jm_new (l : Launch) (hl : l.stackTraces = false) (G : ga_X) (a : Nat) (h : ga_H) (n : Nat) (hL : h a = some (ga_O 11 [.int 0, .null, .int 0])) (hA : G.2.1 ≤ a) : ga_C l G yJ2_init cJ2_init 1 none ({ frames := 3, cells := 0, slots := 0, locals := 60 } : Room) [.ref a] h n (fun v' h' n' => v' = none ∧ h' = ga_up h a (ga_O 11 [.int 0, .ref (G.2.2.2 0), .int 0]) ∧ n' = n) ga_no := by
  refine ga_start hl rfl (Nat.le_of_ble_eq_true rfl) (fun Γ e X Y hnm hxt => ?_)
  subst e
  have X : ga_E Γ G RJ2 cJ2_init 1 := X
  show ga Γ G h n 0 0 0 [(0, .ref a)] []
  refine ga_aload_n X 0 dJ2_init_0 rfl rfl ?_
  refine ga_callI X Y (jm_init1 _ X.tr G a _ _ hL hA) wJ2_1 ⟨Nat.le_of_ble_eq_true rfl, Nat.le_of_ble_eq_true rfl⟩ ⟨(by first | decide | omega | (dsimp only; omega)), (by first | decide | omega | (dsimp only; omega))⟩ rfl (Nat.le_of_ble_eq_true rfl) dJ2_init_1 (fun v1 h1 n1 hq _ => ?_)
  obtain ⟨rfl, hq2, hq3⟩ := hq
  rw [hq2, hq3]
  show ga Γ G _ _ _ _ 4 [(0, .ref a)] ([])
  refine ga_aload_n X 0 dJ2_init_4 rfl rfl ?_
  refine ga_gs0 X q112 dJ2_init_5 ?_
  refine ga_putE X in_J2 tyJ2 tyJ2_ok nmJ2 (ci := 11) rfl 1 (by decide) q114 rfl rfl ga_up_s hA rfl rfl (Nat.le_of_ble_eq_true rfl) (fs' := [.int 0, .ref (G.2.2.2 0), .int 0]) rfl dJ2_init_8 ?_
  exact ga_vret X Y dJ2_init_11 (by first | decide | omega | (dsimp only; omega)) (by first | decide | omega | (dsimp only; omega)) ⟨rfl, ga_up_up, rfl⟩
set_option maxHeartbeats 4000000 in
theorem jm_size (l : Launch) (hl : l.stackTraces = false) (G : ga_X) (a e k : Nat) (m : Int32) (h : ga_H) (n : Nat) (hL : h a = some (ga_O 11 [.int m, .ref e, .int (nI k)])) : ga_C l G yJ2_size cJ2_size 1 (some FieldType.int) ({ frames := 0, cells := 0, slots := 0, locals := 0 } : Room) [.ref a] h n (fun v' h' n' => v' = some (.int (nI k)) ∧ h' = h ∧ n' = n) ga_no := by
  refine ga_start hl rfl (Nat.le_of_ble_eq_true rfl) (fun Γ e X Y hnm hxt => ?_)
  subst e
  have X : ga_E Γ G RJ2 cJ2_size 1 := X
  show ga Γ G h n 0 0 0 [(0, .ref a)] []
  refine ga_aload_n X 0 dJ2_size_0 rfl rfl ?_
  refine ga_get X in_J2 (ci := 11) rfl 2 (by decide) q117 rfl hL rfl dJ2_size_1 ?_
  exact ga_iret X Y dJ2_size_4 (by first | decide | omega | (dsimp only; omega)) (by first | decide | omega | (dsimp only; omega)) ⟨rfl, rfl, rfl⟩
set_option maxHeartbeats 4000000 in
theorem jm_ed (l : Launch) (hl : l.stackTraces = false) (G : ga_X) (a e k N j y : Nat) (m : Int32) (f : Nat → Option Nat) (h : ga_H) (n : Nat) (hL : h a = some (ga_O 11 [.int m, .ref e, .int (nI k)])) (hE : h e = some (ga_R G 3 N f)) (hj : j < k) (hkN : k ≤ N) (hk : N < 2147483648) (hf : f j = some y) : ga_C l G yJ2_elementData cJ2_elementData 2 (some (FieldType.object "java/lang/Object")) ({ frames := 0, cells := 0, slots := 0, locals := 0 } : Room) [.ref a, .int (nI j)] h n (fun v' h' n' => v' = some (.ref y) ∧ h' = h ∧ n' = n) ga_no := by
  refine ga_start hl rfl (Nat.le_of_ble_eq_true rfl) (fun Γ e X Y hnm hxt => ?_)
  subst e
  have X : ga_E Γ G RJ2 cJ2_elementData 2 := X
  show ga Γ G h n 0 0 0 [(0, .ref a), (1, .int (nI j))] []
  refine ga_aload_n X 0 dJ2_elementData_0 rfl rfl ?_
  refine ga_get X in_J2 (ci := 11) rfl 1 (by decide) q114 rfl hL rfl dJ2_elementData_1 ?_
  refine ga_iload_n X 1 dJ2_elementData_4 rfl rfl ?_
  refine ga_aald X (k := 3) j rfl (by omega) (by omega) rfl rfl hE dJ2_elementData_5 (show va_rf (f j) = .ref y by rw [hf]; rfl) ?_
  exact ga_aret X Y (Or.inl ⟨_, rfl⟩) (Or.inr ⟨_, rfl⟩) dJ2_elementData_6 (by first | decide | omega | (dsimp only; omega)) (by first | decide | omega | (dsimp only; omega)) ⟨rfl, rfl, rfl⟩
set_option maxHeartbeats 4000000 in
theorem jm_get (l : Launch) (hl : l.stackTraces = false) (G : ga_X) (a e k N j y : Nat) (m : Int32) (f : Nat → Option Nat) (h : ga_H) (n : Nat) (hL : h a = some (ga_O 11 [.int m, .ref e, .int (nI k)])) (hE : h e = some (ga_R G 3 N f)) (hj : j < k) (hkN : k ≤ N) (hk : N < 2147483648) (hf : f j = some y) : ga_C l G yJ2_get cJ2_get 2 (some (FieldType.object "java/lang/Object")) ({ frames := 2, cells := 0, slots := 0, locals := 43 } : Room) [.ref a, .int (nI j)] h n (fun v' h' n' => v' = some (.ref y) ∧ h' = h ∧ n' = n) ga_no := by
  refine ga_start hl rfl (Nat.le_of_ble_eq_true rfl) (fun Γ e X Y hnm hxt => ?_)
  subst e
  have X : ga_E Γ G RJ2 cJ2_get 2 := X
  show ga Γ G h n 0 0 0 [(0, .ref a), (1, .int (nI j))] []
  refine ga_iload_n X 1 dJ2_get_0 rfl rfl ?_
  refine ga_aload_n X 0 dJ2_get_1 rfl rfl ?_
  refine ga_get X in_J2 (ci := 11) rfl 2 (by decide) q117 rfl hL rfl dJ2_get_2 ?_
  refine ga_callS X Y (jm_ck _ X.tr G j k _ _ hj (by omega)) wJ2_118 ⟨Nat.le_of_ble_eq_true rfl, Nat.le_of_ble_eq_true rfl⟩ ⟨(by first | decide | omega | (dsimp only; omega)), (by first | decide | omega | (dsimp only; omega))⟩ rfl (Nat.le_of_ble_eq_true rfl) dJ2_get_5 (fun v1 h1 n1 hq _ => ?_) (fun _ _ _ q _ => q.elim)
  obtain ⟨rfl, hq2, hq3⟩ := hq
  rw [hq2, hq3]
  show ga Γ G _ _ _ _ 8 [(0, .ref a), (1, .int (nI j))] (.int (nI j) :: [])
  refine ga_pop X dJ2_get_8 rfl ?_
  refine ga_aload_n X 0 dJ2_get_9 rfl rfl ?_
  refine ga_iload_n X 1 dJ2_get_10 rfl rfl ?_
  refine ga_callV X Y (jm_ed _ X.tr G a e k N j y m f _ _ hL hE hj hkN hk hf) wJ2_123 (ci := 11) rfl hL ⟨Nat.le_of_ble_eq_true rfl, Nat.le_of_ble_eq_true rfl⟩ ⟨(by first | decide | omega | (dsimp only; omega)), (by first | decide | omega | (dsimp only; omega))⟩ rfl (Nat.le_of_ble_eq_true rfl) dJ2_get_11 (fun v1 h1 n1 hq _ => ?_) (fun _ _ _ q _ => q.elim)
  obtain ⟨rfl, hq2, hq3⟩ := hq
  rw [hq2, hq3]
  show ga Γ G _ _ _ _ 14 [(0, .ref a), (1, .int (nI j))] (.ref y :: [])
  exact ga_aret X Y (Or.inl ⟨_, rfl⟩) (Or.inr ⟨_, rfl⟩) dJ2_get_14 (by first | decide | omega | (dsimp only; omega)) (by first | decide | omega | (dsimp only; omega)) ⟨rfl, rfl, rfl⟩
set_option maxHeartbeats 4000000 in
theorem jm_it0 (l : Launch) (hl : l.stackTraces = false) (G : ga_X) (q a e k : Nat) (m : Int32) (h : ga_H) (n : Nat) (hI : h q = some (ga_O 12 [.int 0, .int 0, .int 0, .null])) (hA : G.2.1 ≤ q) (hL : h a = some (ga_O 11 [.int m, .ref e, .int (nI k)])) (hqa : a ≠ q) : ga_C l G yJ16_init cJ16_init 2 none ({ frames := 1, cells := 0, slots := 0, locals := 20 } : Room) [.ref q, .ref a] h n (fun v' h' n' => v' = none ∧ h' = ga_up h q (ga_O 12 [.int 0, .int (-1), .int m, .ref a]) ∧ n' = n) ga_no := by
  refine ga_start hl rfl (Nat.le_of_ble_eq_true rfl) (fun Γ e X Y hnm hxt => ?_)
  subst e
  have X : ga_E Γ G RJ16 cJ16_init 2 := X
  show ga Γ G h n 0 0 0 [(0, .ref q), (1, .ref a)] []
  refine ga_aload_n X 0 dJ16_init_0 rfl rfl ?_
  refine ga_aload_n X 1 dJ16_init_1 rfl rfl ?_
  refine ga_putFE X in_J16 tyJ16 tyJ16_ok nmJ16 (ci := 12) rfl 3 (by decide) q690 rfl hnm rfl hI hA rfl rfl (Nat.le_of_ble_eq_true rfl) (fs' := [.int 0, .int 0, .int 0, .ref a]) rfl dJ16_init_2 ?_
  refine ga_aload_n X 0 dJ16_init_5 rfl rfl ?_
  refine ga_objInit X Y q686 q98 q99 (Nat.le_of_ble_eq_true rfl) (by first | decide | omega | (dsimp only; omega)) (by first | decide | omega | (dsimp only; omega)) dJ16_init_6 ?_
  refine ga_aload_n X 0 dJ16_init_9 rfl rfl ?_
  refine ga_iconst X (v := (-1)) dJ16_init_10 (by decide) ?_
  refine ga_putE X in_J16 tyJ16 tyJ16_ok nmJ16 (ci := 12) rfl 1 (by decide) q688 rfl rfl ga_up_s hA rfl rfl (Nat.le_of_ble_eq_true rfl) (fs' := [.int 0, .int (-1), .int 0, .ref a]) rfl dJ16_init_11 ?_
  refine ga_aload_n X 0 dJ16_init_14 rfl rfl ?_
  refine ga_aload_n X 0 dJ16_init_15 rfl rfl ?_
  refine ga_get X in_J16 (ci := 12) rfl 3 (by decide) q690 rfl ga_up_s rfl dJ16_init_16 ?_
  refine ga_getS X in_J2 (ci := 11) rfl 0 (by decide) q119 q120 ((ga_up_n (by omega)).trans ((ga_up_n (by omega)).trans hL)) rfl dJ16_init_19 ?_
  refine ga_putE X in_J16 tyJ16 tyJ16_ok nmJ16 (ci := 12) rfl 2 (by decide) q689 rfl rfl ga_up_s hA rfl rfl (Nat.le_of_ble_eq_true rfl) (fs' := [.int 0, .int (-1), .int m, .ref a]) rfl dJ16_init_22 ?_
  exact ga_vret X Y dJ16_init_25 (by first | decide | omega | (dsimp only; omega)) (by first | decide | omega | (dsimp only; omega)) ⟨rfl, (by rw [ga_up_up, ga_up_up]), rfl⟩
set_option maxHeartbeats 4000000 in
theorem jm_iter (l : Launch) (hl : l.stackTraces = false) (G : ga_X) (a e k : Nat) (m : Int32) (h : ga_H) (n : Nat) (hL : h a = some (ga_O 11 [.int m, .ref e, .int (nI k)])) (han : a < n) (hA : G.2.1 ≤ n) : ga_C l G yJ2_iterator cJ2_iterator 1 (some (FieldType.object "java/util/Iterator")) ({ frames := 2, cells := 1, slots := 4, locals := 41 } : Room) [.ref a] h n (fun v' h' n' => v' = some (.ref n) ∧ h' = ga_up h n (ga_O 12 [.int 0, .int (-1), .int m, .ref a]) ∧ n' = n + 1) ga_no := by
  refine ga_start hl rfl (Nat.le_of_ble_eq_true rfl) (fun Γ e X Y hnm hxt => ?_)
  subst e
  have X : ga_E Γ G RJ2 cJ2_iterator 1 := X
  show ga Γ G h n 0 0 0 [(0, .ref a)] []
  refine ga_new X Y in_J16 tyJ16 tyJ16_ok (ci := 12) rfl q681 q682 q79 (fs := [.int 0, .int 0, .int 0, .null]) rfl (by first | decide | omega | (dsimp only; omega)) (by first | decide | omega | (dsimp only; omega)) dJ2_iterator_0 ?_
  refine ga_dup X dJ2_iterator_3 rfl ?_
  refine ga_aload_n X 0 dJ2_iterator_4 rfl rfl ?_
  refine ga_callI X Y (jm_it0 _ X.tr G n a e k m _ _ ga_up_s (by omega) ((ga_up_n (by omega)).trans hL) (by omega)) wJ2_269 ⟨Nat.le_of_ble_eq_true rfl, Nat.le_of_ble_eq_true rfl⟩ ⟨(by first | decide | omega | (dsimp only; omega)), (by first | decide | omega | (dsimp only; omega))⟩ rfl (Nat.le_of_ble_eq_true rfl) dJ2_iterator_5 (fun v1 h1 n1 hq _ => ?_)
  obtain ⟨rfl, hq2, hq3⟩ := hq
  rw [hq2, hq3]
  show ga Γ G _ _ _ _ 8 [(0, .ref a)] (.ref n :: [])
  exact ga_aret X Y (Or.inl ⟨_, rfl⟩) (Or.inr ⟨_, rfl⟩) dJ2_iterator_8 (by first | decide | omega | (dsimp only; omega)) (by first | decide | omega | (dsimp only; omega)) ⟨rfl, ga_up_up, rfl⟩
set_option maxHeartbeats 4000000 in
theorem jm_hn (l : Launch) (hl : l.stackTraces = false) (G : ga_X) (q a e k j : Nat) (m lr : Int32) (h : ga_H) (n : Nat) (hI : h q = some (ga_O 12 [.int (nI j), .int lr, .int m, .ref a])) (hL : h a = some (ga_O 11 [.int m, .ref e, .int (nI k)])) (hj : j ≤ k) (hk : k < 2147483648) : ga_C l G yJ16_hasNext cJ16_hasNext 1 (some FieldType.boolean) ({ frames := 0, cells := 0, slots := 0, locals := 0 } : Room) [.ref q] h n (fun v' h' n' => v' = some (.int (bI (j < k))) ∧ h' = h ∧ n' = n) ga_no := by
  refine ga_start hl rfl (Nat.le_of_ble_eq_true rfl) (fun Γ e X Y hnm hxt => ?_)
  subst e
  have X : ga_E Γ G RJ16 cJ16_hasNext 1 := X
  show ga Γ G h n 0 0 0 [(0, .ref q)] []
  refine ga_aload_n X 0 dJ16_hasNext_0 rfl rfl ?_
  refine ga_get X in_J16 (ci := 12) rfl 0 (by decide) q687 rfl hI rfl dJ16_hasNext_1 ?_
  refine ga_aload_n X 0 dJ16_hasNext_4 rfl rfl ?_
  refine ga_get X in_J16 (ci := 12) rfl 3 (by decide) q690 rfl hI rfl dJ16_hasNext_5 ?_
  refine ga_getN X in_J2 (ci := 11) rfl 2 (by decide) q116 rfl hL rfl dJ16_hasNext_8 ?_
  refine ga_icmp_eq X (tgt := 18) dJ16_hasNext_11 (by decide) (fun c_11 => ?_) (fun c_11 => ?_)
  · refine ga_iconst X (v := 0) dJ16_hasNext_18 (by decide) ?_
    exact ga_zret X Y rfl dJ16_hasNext_19 (by first | decide | omega | (dsimp only; omega)) (by first | decide | omega | (dsimp only; omega)) ⟨(by rw [bI_f (fun z => absurd ((nI_eq (by omega) hk).mp c_11) (by omega))]), rfl, rfl⟩
  · refine ga_iconst X (v := 1) dJ16_hasNext_14 (by decide) ?_
    refine ga_goto X (tgt := 19) dJ16_hasNext_15 (by decide) ?_
    exact ga_zret X Y rfl dJ16_hasNext_19 (by first | decide | omega | (dsimp only; omega)) (by first | decide | omega | (dsimp only; omega)) ⟨(by rw [bI_t (Nat.lt_of_le_of_ne hj (fun z => c_11 (by rw [z])))]), rfl, rfl⟩
set_option maxHeartbeats 4000000 in
theorem jm_cfc (l : Launch) (hl : l.stackTraces = false) (G : ga_X) (q a e k j : Nat) (m lr : Int32) (h : ga_H) (n : Nat) (hI : h q = some (ga_O 12 [.int (nI j), .int lr, .int m, .ref a])) (hL : h a = some (ga_O 11 [.int m, .ref e, .int (nI k)])) : ga_C l G yJ16_checkForComodification cJ16_checkForComodification 1 none ({ frames := 0, cells := 0, slots := 0, locals := 0 } : Room) [.ref q] h n (fun v' h' n' => v' = none ∧ h' = h ∧ n' = n) ga_no := by
  refine ga_start hl rfl (Nat.le_of_ble_eq_true rfl) (fun Γ e X Y hnm hxt => ?_)
  subst e
  have X : ga_E Γ G RJ16 cJ16_checkForComodification 1 := X
  show ga Γ G h n 0 0 0 [(0, .ref q)] []
  refine ga_aload_n X 0 dJ16_checkForComodification_0 rfl rfl ?_
  refine ga_get X in_J16 (ci := 12) rfl 3 (by decide) q690 rfl hI rfl dJ16_checkForComodification_1 ?_
  refine ga_getS X in_J2 (ci := 11) rfl 0 (by decide) q119 q120 hL rfl dJ16_checkForComodification_4 ?_
  refine ga_aload_n X 0 dJ16_checkForComodification_7 rfl rfl ?_
  refine ga_get X in_J16 (ci := 12) rfl 2 (by decide) q689 rfl hI rfl dJ16_checkForComodification_8 ?_
  refine ga_icmp_eq X (tgt := 22) dJ16_checkForComodification_11 (by decide) (fun c_11 => ?_) (fun c_11 => ?_)
  · exact ga_vret X Y dJ16_checkForComodification_22 (by first | decide | omega | (dsimp only; omega)) (by first | decide | omega | (dsimp only; omega)) ⟨rfl, rfl, rfl⟩
  · exact absurd rfl c_11
set_option maxHeartbeats 4000000 in
theorem jm_next (l : Launch) (hl : l.stackTraces = false) (G : ga_X) (q a e k N j y : Nat) (m lr : Int32) (f : Nat → Option Nat) (h : ga_H) (n : Nat) (hI : h q = some (ga_O 12 [.int (nI j), .int lr, .int m, .ref a])) (hA : G.2.1 ≤ q) (hL : h a = some (ga_O 11 [.int m, .ref e, .int (nI k)])) (hE : h e = some (ga_R G 3 N f)) (hj : j < k) (hkN : k ≤ N) (hk : N < 2147483648) (hf : f j = some y) (hqa : a ≠ q) (hqe : e ≠ q) : ga_C l G yJ16_next cJ16_next 3 (some (FieldType.object "java/lang/Object")) ({ frames := 1, cells := 0, slots := 0, locals := 20 } : Room) [.ref q] h n (fun v' h' n' => v' = some (.ref y) ∧ h' = ga_up h q (ga_O 12 [.int (nI (j + 1)), .int (nI j), .int m, .ref a]) ∧ n' = n) ga_no := by
  refine ga_start hl rfl (Nat.le_of_ble_eq_true rfl) (fun Γ e X Y hnm hxt => ?_)
  subst e
  have X : ga_E Γ G RJ16 cJ16_next 3 := X
  show ga Γ G h n 0 0 0 [(0, .ref q)] []
  refine ga_aload_n X 0 dJ16_next_0 rfl rfl ?_
  refine ga_callV X Y (jm_cfc _ X.tr G q a e k j m lr _ _ hI hL) wJ16_31 (ci := 12) rfl hI ⟨Nat.le_of_ble_eq_true rfl, Nat.le_of_ble_eq_true rfl⟩ ⟨(by first | decide | omega | (dsimp only; omega)), (by first | decide | omega | (dsimp only; omega))⟩ rfl (Nat.le_of_ble_eq_true rfl) dJ16_next_1 (fun v1 h1 n1 hq _ => ?_) (fun _ _ _ q _ => q.elim)
  obtain ⟨rfl, hq2, hq3⟩ := hq
  rw [hq2, hq3]
  show ga Γ G _ _ _ _ 4 [(0, .ref q)] ([])
  refine ga_aload_n X 0 dJ16_next_4 rfl rfl ?_
  refine ga_get X in_J16 (ci := 12) rfl 0 (by decide) q687 rfl hI rfl dJ16_next_5 ?_
  refine ga_istore_n X [(1, .int (nI j)), (0, .ref q)] dJ16_next_8 rfl (by decide) rfl ?_
  refine ga_iload_n X 0 dJ16_next_9 rfl rfl ?_
  refine ga_aload_n X 1 dJ16_next_10 rfl rfl ?_
  refine ga_get X in_J16 (ci := 12) rfl 3 (by decide) q690 rfl hI rfl dJ16_next_11 ?_
  refine ga_getN X in_J2 (ci := 11) rfl 2 (by decide) q116 rfl hL rfl dJ16_next_14 ?_
  refine ga_icmp_lt X (tgt := 28) dJ16_next_17 (by decide) (fun c_17 => ?_) (fun c_17 => ?_)
  · refine ga_aload_n X 1 dJ16_next_28 rfl rfl ?_
    refine ga_get X in_J16 (ci := 12) rfl 3 (by decide) q690 rfl hI rfl dJ16_next_29 ?_
    refine ga_get X in_J2 (ci := 11) rfl 1 (by decide) q115 rfl hL rfl dJ16_next_32 ?_
    refine ga_astore_n X [(2, .ref e), (1, .int (nI j)), (0, .ref q)] dJ16_next_35 rfl (by decide) rfl ?_
    refine ga_iload_n X 1 dJ16_next_36 rfl rfl ?_
    refine ga_aload_n X 0 dJ16_next_37 rfl rfl ?_
    refine ga_alen X 3 rfl (rfl : nI N = _) hE dJ16_next_38 ?_
    refine ga_icmp_lt X (tgt := 50) dJ16_next_39 (by decide) (fun c_39 => ?_) (fun c_39 => ?_)
    · refine ga_aload_n X 2 dJ16_next_50 rfl rfl ?_
      refine ga_iload_n X 1 dJ16_next_51 rfl rfl ?_
      refine ga_iconst X (v := 1) dJ16_next_52 (by decide) ?_
      refine ga_iaddN X j 1 rfl rfl dJ16_next_53 ?_
      refine ga_putE X in_J16 tyJ16 tyJ16_ok nmJ16 (ci := 12) rfl 0 (by decide) q687 rfl rfl hI hA rfl rfl (Nat.le_of_ble_eq_true rfl) (fs' := [.int (nI (j + 1)), .int lr, .int m, .ref a]) rfl dJ16_next_54 ?_
      refine ga_aload_n X 0 dJ16_next_57 rfl rfl ?_
      refine ga_aload_n X 2 dJ16_next_58 rfl rfl ?_
      refine ga_iload_n X 1 dJ16_next_59 rfl rfl ?_
      refine ga_dup_x1 X dJ16_next_60 rfl rfl ?_
      refine ga_putE X in_J16 tyJ16 tyJ16_ok nmJ16 (ci := 12) rfl 1 (by decide) q688 rfl rfl ga_up_s hA rfl rfl (Nat.le_of_ble_eq_true rfl) (fs' := [.int (nI (j + 1)), .int (nI j), .int m, .ref a]) rfl dJ16_next_61 ?_
      refine ga_aald X (k := 3) j rfl (by omega) (by omega) rfl rfl ((ga_up_n (by omega)).trans ((ga_up_n (by omega)).trans hE)) dJ16_next_64 (show va_rf (f j) = .ref y by rw [hf]; rfl) ?_
      exact ga_aret X Y (Or.inl ⟨_, rfl⟩) (Or.inr ⟨_, rfl⟩) dJ16_next_65 (by first | decide | omega | (dsimp only; omega)) (by first | decide | omega | (dsimp only; omega)) ⟨rfl, ga_up_up, rfl⟩
    · exact absurd (nI_lt (Nat.lt_of_lt_of_le hj hkN) hk) c_39
  · exact absurd (nI_lt hj (by omega)) c_17
set_option maxHeartbeats 4000000 in
theorem jm_nl (l : Launch) (hl : l.stackTraces = false) (G : ga_X) (N p : Nat) (h : ga_H) (n : Nat) (hp : 0 < p) (hN : N + p < 100000) : ga_C l G yJ11_newLength cJ11_newLength 4 (some FieldType.int) ({ frames := 1, cells := 0, slots := 0, locals := 21 } : Room) [.int (nI N), .int (nI 1), .int (nI p)] h n (fun v' h' n' => v' = some (.int (nI (N + p))) ∧ h' = h ∧ n' = n) ga_no := by
  refine ga_start hl rfl (Nat.le_of_ble_eq_true rfl) (fun Γ e X Y hnm hxt => ?_)
  subst e
  have X : ga_E Γ G RJ11 cJ11_newLength 4 := X
  show ga Γ G h n 0 0 0 [(0, .int (nI N)), (1, .int (nI 1)), (2, .int (nI p))] []
  refine ga_iload_n X 0 dJ11_newLength_0 rfl rfl ?_
  refine ga_iload_n X 1 dJ11_newLength_1 rfl rfl ?_
  refine ga_iload_n X 2 dJ11_newLength_2 rfl rfl ?_
  refine ga_mmax X Y q468 q469 q71 q470 (by first | decide | omega | (dsimp only; omega)) (by first | decide | omega | (dsimp only; omega)) (by first | decide | omega | (dsimp only; omega)) (by first | decide | omega | (dsimp only; omega)) (Nat.le_of_ble_eq_true rfl) dJ11_newLength_3 ?_
  refine ga_iadd X dJ11_newLength_6 ?_
  have eN : nI N + (if nI 1 < nI p then nI p else nI 1) = nI (N + p) := by
    by_cases hc : 1 < p
    · rw [if_pos (nI_lt hc (by omega)), nI_add]
    · rw [if_neg (nI_nlt (by omega) (by decide)), nI_add, show p = 1 by omega]
  refine ga_st (st' := .int (nI (N + p)) :: []) (by rw [eN]) ?_
  refine ga_istore_n X [(3, .int (nI (N + p))), (0, .int (nI N)), (1, .int (nI 1)), (2, .int (nI p))] dJ11_newLength_7 rfl (by decide) rfl ?_
  refine ga_iconst X (v := 0) dJ11_newLength_8 (by decide) ?_
  refine ga_iload_n X 0 dJ11_newLength_9 rfl rfl ?_
  refine ga_icmp_ge X (tgt := 21) dJ11_newLength_10 (by decide) (fun c_10 => ?_) (fun c_10 => ?_)
  · exact absurd c_10 (nI_nle (by omega) (by omega))
  · refine ga_iload_n X 0 dJ11_newLength_13 rfl rfl ?_
    refine ga_ldc X q471 dJ11_newLength_14 ?_
    refine ga_icmp_gt X (tgt := 21) dJ11_newLength_16 (by decide) (fun c_16 => ?_) (fun c_16 => ?_)
    · exact absurd c_16 (by show ¬ nI 2147483639 < _; exact nI_nlt (by omega) (by decide))
    · refine ga_iload_n X 0 dJ11_newLength_19 rfl rfl ?_
      exact ga_iret X Y dJ11_newLength_20 (by first | decide | omega | (dsimp only; omega)) (by first | decide | omega | (dsimp only; omega)) ⟨rfl, rfl, rfl⟩
set_option maxHeartbeats 4000000 in
theorem jm_cp2 (l : Launch) (hl : l.stackTraces = false) (G : ga_X) (e N M : Nat) (f : Nat → Option Nat) (h : ga_H) (n : Nat) (hE : h e = some (ga_R G 3 N f)) (hNM : N ≤ M) (hM : M < 60000) (hA : G.2.1 ≤ n) (hen : e < n) (hel : ∀ i : Nat, i < N → ∀ y : Nat, f i = some y → ga_El h "java/lang/Object" y ∧ y < n) : ga_C l G yJ13_copyOf_2 cJ13_copyOf_2 4 (some (FieldType.array (FieldType.object "java/lang/Object"))) ({ frames := 1, cells := 1, slots := M, locals := 40 } : Room) [.ref e, .int (nI M), .ref (G.2.2.2 1)] h n (fun v' h' n' => v' = some (.ref n) ∧ h' = ga_up h n (ga_R G 3 M (va_cpy f (fun _ => none) 0 0 N)) ∧ n' = n + 1) ga_no := by
  refine ga_start hl rfl (Nat.le_of_ble_eq_true rfl) (fun Γ e X Y hnm hxt => ?_)
  subst e
  have X : ga_E Γ G RJ13 cJ13_copyOf_2 4 := X
  show ga Γ G h n 0 0 0 [(0, .ref e), (1, .int (nI M)), (2, .ref (G.2.2.2 1))] []
  refine ga_aload_n X 2 dJ13_copyOf_2_0 rfl rfl ?_
  refine ga_ldcM X q506 dJ13_copyOf_2_1 ?_
  refine ga_acmp_ne X (rx := some (G.2.2.2 1)) (ry := some (G.2.2.2 1)) rfl rfl (tgt := 13) dJ13_copyOf_2_3 (by decide) (fun c_3 => ?_) (fun c_3 => ?_)
  · exact absurd rfl c_3
  · refine ga_iload_n X 1 dJ13_copyOf_2_6 rfl rfl ?_
    refine ga_anew X Y (k := 3) rfl (by decide) q508 M rfl (by first | decide | omega | (dsimp only; omega)) (by first | decide | omega | (dsimp only; omega)) (by first | decide | omega | (dsimp only; omega)) dJ13_copyOf_2_7 ?_
    refine ga_goto X (tgt := 24) dJ13_copyOf_2_10 (by decide) ?_
    refine ga_astore_n X [(3, .ref n), (0, .ref e), (1, .int (nI M)), (2, .ref (G.2.2.2 1))] dJ13_copyOf_2_24 rfl (by decide) rfl ?_
    refine ga_aload_n X 1 dJ13_copyOf_2_25 rfl rfl ?_
    refine ga_iconst X (v := 0) dJ13_copyOf_2_26 (by decide) ?_
    refine ga_aload_n X 0 dJ13_copyOf_2_27 rfl rfl ?_
    refine ga_iconst X (v := 0) dJ13_copyOf_2_28 (by decide) ?_
    refine ga_aload_n X 1 dJ13_copyOf_2_29 rfl rfl ?_
    refine ga_alen X 3 rfl (rfl : nI N = _) ((ga_up_n (by omega)).trans hE) dJ13_copyOf_2_30 ?_
    refine ga_iload_n X 2 dJ13_copyOf_2_31 rfl rfl ?_
    refine ga_mmin X Y q509 q510 q71 q511 (by first | decide | omega | (dsimp only; omega)) (by first | decide | omega | (dsimp only; omega)) (by first | decide | omega | (dsimp only; omega)) (by first | decide | omega | (dsimp only; omega)) (Nat.le_of_ble_eq_true rfl) dJ13_copyOf_2_32 ?_
    refine ga_copyr X Y q512 q514 q513 q73 ((ga_up_n (by omega)).trans hE) ga_up_s (by omega) 0 0 N rfl rfl (if_neg (nI_nlt hNM (by omega))) (by first | decide | omega | (dsimp only; omega)) (by first | decide | omega | (dsimp only; omega)) (by omega) (by omega) (fun i hi y hy => (hel i hi y (by rw [← hy, Nat.zero_add])).1.up (by have := (hel i hi y (by rw [← hy, Nat.zero_add])).2; omega)) (by first | decide | omega | (dsimp only; omega)) (by first | decide | omega | (dsimp only; omega)) (Nat.le_of_ble_eq_true rfl) dJ13_copyOf_2_35 ?_
    refine ga_aload_n X 0 dJ13_copyOf_2_38 rfl rfl ?_
    exact ga_aret X Y (Or.inr ⟨_, rfl⟩) (Or.inr ⟨_, rfl⟩) dJ13_copyOf_2_39 (by first | decide | omega | (dsimp only; omega)) (by first | decide | omega | (dsimp only; omega)) ⟨rfl, ga_up_up, rfl⟩
set_option maxHeartbeats 4000000 in
theorem jm_cp (l : Launch) (hl : l.stackTraces = false) (G : ga_X) (e N M : Nat) (f : Nat → Option Nat) (h : ga_H) (n : Nat) (hE : h e = some (ga_R G 3 N f)) (hNM : N ≤ M) (hM : M < 60000) (hA : G.2.1 ≤ n) (hen : e < n) (hel : ∀ i : Nat, i < N → ∀ y : Nat, f i = some y → ga_El h "java/lang/Object" y ∧ y < n) : ga_C l G yJ13_copyOf cJ13_copyOf 2 (some (FieldType.array (FieldType.object "java/lang/Object"))) ({ frames := 2, cells := 1, slots := M, locals := 63 } : Room) [.ref e, .int (nI M)] h n (fun v' h' n' => v' = some (.ref n) ∧ h' = ga_up h n (ga_R G 3 M (va_cpy f (fun _ => none) 0 0 N)) ∧ n' = n + 1) ga_no := by
  refine ga_start hl rfl (Nat.le_of_ble_eq_true rfl) (fun Γ e X Y hnm hxt => ?_)
  subst e
  have X : ga_E Γ G RJ13 cJ13_copyOf 2 := X
  show ga Γ G h n 0 0 0 [(0, .ref e), (1, .int (nI M))] []
  refine ga_aload_n X 0 dJ13_copyOf_0 rfl rfl ?_
  refine ga_iload_n X 1 dJ13_copyOf_1 rfl rfl ?_
  refine ga_aload_n X 0 dJ13_copyOf_2 rfl rfl ?_
  refine ga_getC X Y q478 q1987 q1986 q479 q502 hE (by first | decide | omega | (dsimp only; omega)) (by first | decide | omega | (dsimp only; omega)) (Nat.le_of_ble_eq_true rfl) dJ13_copyOf_3 ?_
  refine ga_callS X Y (jm_cp2 _ X.tr G e N M f _ _ hE hNM hM hA hen hel) wJ13_300 ⟨Nat.le_of_ble_eq_true rfl, Nat.le_of_ble_eq_true rfl⟩ ⟨(by first | decide | omega | (dsimp only; omega)), (by first | decide | omega | (dsimp only; omega))⟩ rfl (Nat.le_of_ble_eq_true rfl) dJ13_copyOf_6 (fun v1 h1 n1 hq _ => ?_) (fun _ _ _ q _ => q.elim)
  obtain ⟨rfl, hq2, hq3⟩ := hq
  rw [hq2, hq3]
  show ga Γ G _ _ _ _ 9 [(0, .ref e), (1, .int (nI M))] (.ref n :: [])
  exact ga_aret X Y (Or.inr ⟨_, rfl⟩) (Or.inr ⟨_, rfl⟩) dJ13_copyOf_9 (by first | decide | omega | (dsimp only; omega)) (by first | decide | omega | (dsimp only; omega)) ⟨rfl, rfl, rfl⟩
set_option maxHeartbeats 4000000 in
theorem jm_gr2 (l : Launch) (hl : l.stackTraces = false) (G : ga_X) (a e N : Nat) (m : Int32) (f : Nat → Option Nat) (h : ga_H) (n : Nat) (hL : h a = some (ga_O 11 [.int m, .ref e, .int (nI N)])) (hE : h e = some (ga_R G 3 N f)) (hA : G.2.1 ≤ a) (hAn : G.2.1 ≤ n) (hN : 2 ≤ N) (hN2 : N < 30000) (han : a < n) (hen : e < n) (hea : e ≠ a) (hee : G.2.1 ≤ e) (hel : ∀ i : Nat, i < N → ∀ y : Nat, f i = some y → ga_El h "java/lang/Object" y ∧ y < n) : ga_C l G yJ2_grow_2 cJ2_grow_2 4 (some (FieldType.array (FieldType.object "java/lang/Object"))) ({ frames := 3, cells := 1, slots := N + N / 2, locals := 84 } : Room) [.ref a, .int (nI (N + 1))] h n (fun v' h' n' => v' = some (.ref n) ∧ h' = ga_up (ga_up h n (ga_R G 3 (N + N / 2) (va_cpy f (fun _ => none) 0 0 N))) a (ga_O 11 [.int m, .ref n, .int (nI N)]) ∧ n' = n + 1) ga_no := by
  refine ga_start hl rfl (Nat.le_of_ble_eq_true rfl) (fun Γ e X Y hnm hxt => ?_)
  subst e
  have X : ga_E Γ G RJ2 cJ2_grow_2 4 := X
  show ga Γ G h n 0 0 0 [(0, .ref a), (1, .int (nI (N + 1)))] []
  refine ga_aload_n X 0 dJ2_grow_2_0 rfl rfl ?_
  refine ga_get X in_J2 (ci := 11) rfl 1 (by decide) q114 rfl hL rfl dJ2_grow_2_1 ?_
  refine ga_alen X 3 rfl (rfl : nI N = _) hE dJ2_grow_2_4 ?_
  refine ga_istore_n X [(2, .int (nI N)), (0, .ref a), (1, .int (nI (N + 1)))] dJ2_grow_2_5 rfl (by decide) rfl ?_
  refine ga_iload_n X 0 dJ2_grow_2_6 rfl rfl ?_
  refine ga_if_gt X (tgt := 20) dJ2_grow_2_7 (by decide) (fun c_7 => ?_) (fun c_7 => ?_)
  · refine ga_iload_n X 0 dJ2_grow_2_20 rfl rfl ?_
    refine ga_iload_n X 2 dJ2_grow_2_21 rfl rfl ?_
    refine ga_iload_n X 0 dJ2_grow_2_22 rfl rfl ?_
    refine ga_isub X dJ2_grow_2_23 ?_
    refine ga_iload_n X 0 dJ2_grow_2_24 rfl rfl ?_
    refine ga_iconst X (v := 1) dJ2_grow_2_25 (by decide) ?_
    refine ga_ishr X dJ2_grow_2_26 ?_
    have e2 : nI N >>> ((1 : Int32) &&& 31) = nI (N / 2) := by
      have k := pk_shrN (n := N) (by omega) ((1 : Int32) &&& 31) 1 (by decide)
      rw [Nat.pow_one] at k
      exact k
    have e3 : nI (N + 1) - nI N = nI 1 := by rw [pk_sub (by omega), Nat.add_sub_cancel_left]
    refine ga_st (st' := .int (nI (N / 2)) :: .int (nI 1) :: .int (nI N) :: []) (by rw [e2, e3]) ?_
    refine ga_callS X Y (jm_nl _ X.tr G N (N / 2) _ _ (by omega) (by omega)) wJ2_73 ⟨Nat.le_of_ble_eq_true rfl, Nat.le_of_ble_eq_true rfl⟩ ⟨(by first | decide | omega | (dsimp only; omega)), (by first | decide | omega | (dsimp only; omega))⟩ rfl (Nat.le_of_ble_eq_true rfl) dJ2_grow_2_27 (fun v1 h1 n1 hq _ => ?_) (fun _ _ _ q _ => q.elim)
    obtain ⟨rfl, hq2, hq3⟩ := hq
    rw [hq2, hq3]
    show ga Γ G _ _ _ _ 30 [(2, .int (nI N)), (0, .ref a), (1, .int (nI (N + 1)))] (.int (nI (N + N / 2)) :: [])
    refine ga_istore_n X [(3, .int (nI (N + N / 2))), (2, .int (nI N)), (0, .ref a), (1, .int (nI (N + 1)))] dJ2_grow_2_30 rfl (by decide) rfl ?_
    refine ga_aload_n X 2 dJ2_grow_2_31 rfl rfl ?_
    refine ga_aload_n X 2 dJ2_grow_2_32 rfl rfl ?_
    refine ga_get X in_J2 (ci := 11) rfl 1 (by decide) q114 rfl hL rfl dJ2_grow_2_33 ?_
    refine ga_iload_n X 0 dJ2_grow_2_36 rfl rfl ?_
    refine ga_callS X Y (jm_cp _ X.tr G e N (N + N / 2) f _ _ hE (by omega) (by omega) hAn hen hel) wJ2_66 ⟨Nat.le_of_ble_eq_true rfl, Nat.le_of_ble_eq_true rfl⟩ ⟨(by first | decide | omega | (dsimp only; omega)), (by first | decide | omega | (dsimp only; omega))⟩ rfl (Nat.le_of_ble_eq_true rfl) dJ2_grow_2_37 (fun v1 h1 n1 hq _ => ?_) (fun _ _ _ q _ => q.elim)
    obtain ⟨rfl, hq2, hq3⟩ := hq
    rw [hq2, hq3]
    show ga Γ G _ _ _ _ 40 [(3, .int (nI (N + N / 2))), (2, .int (nI N)), (0, .ref a), (1, .int (nI (N + 1)))] (.ref n :: .ref a :: [])
    refine ga_dup_x1 X dJ2_grow_2_40 rfl rfl ?_
    refine ga_putE X in_J2 tyJ2 tyJ2_ok nmJ2 (ci := 11) rfl 1 (by decide) q114 rfl rfl ((ga_up_n (by omega)).trans hL) hA rfl rfl (Nat.le_of_ble_eq_true rfl) (fs' := [.int m, .ref n, .int (nI N)]) rfl dJ2_grow_2_41 ?_
    exact ga_aret X Y (Or.inr ⟨_, rfl⟩) (Or.inr ⟨_, rfl⟩) dJ2_grow_2_44 (by first | decide | omega | (dsimp only; omega)) (by first | decide | omega | (dsimp only; omega)) ⟨rfl, rfl, rfl⟩
  · exact absurd (nI_lt (a := 0) (b := N) (by omega) (by omega)) c_7
set_option maxHeartbeats 4000000 in
theorem jm_gr (l : Launch) (hl : l.stackTraces = false) (G : ga_X) (a e N : Nat) (m : Int32) (f : Nat → Option Nat) (h : ga_H) (n : Nat) (hL : h a = some (ga_O 11 [.int m, .ref e, .int (nI N)])) (hE : h e = some (ga_R G 3 N f)) (hA : G.2.1 ≤ a) (hAn : G.2.1 ≤ n) (hN : 2 ≤ N) (hN2 : N < 30000) (han : a < n) (hen : e < n) (hea : e ≠ a) (hee : G.2.1 ≤ e) (hel : ∀ i : Nat, i < N → ∀ y : Nat, f i = some y → ga_El h "java/lang/Object" y ∧ y < n) : ga_C l G yJ2_grow cJ2_grow 1 (some (FieldType.array (FieldType.object "java/lang/Object"))) ({ frames := 4, cells := 1, slots := N + N / 2, locals := 107 } : Room) [.ref a] h n (fun v' h' n' => v' = some (.ref n) ∧ h' = ga_up (ga_up h n (ga_R G 3 (N + N / 2) (va_cpy f (fun _ => none) 0 0 N))) a (ga_O 11 [.int m, .ref n, .int (nI N)]) ∧ n' = n + 1) ga_no := by
  refine ga_start hl rfl (Nat.le_of_ble_eq_true rfl) (fun Γ e X Y hnm hxt => ?_)
  subst e
  have X : ga_E Γ G RJ2 cJ2_grow 1 := X
  show ga Γ G h n 0 0 0 [(0, .ref a)] []
  refine ga_aload_n X 0 dJ2_grow_0 rfl rfl ?_
  refine ga_aload_n X 0 dJ2_grow_1 rfl rfl ?_
  refine ga_get X in_J2 (ci := 11) rfl 2 (by decide) q117 rfl hL rfl dJ2_grow_2 ?_
  refine ga_iconst X (v := 1) dJ2_grow_5 (by decide) ?_
  refine ga_iaddN X N 1 rfl rfl dJ2_grow_6 ?_
  refine ga_callV X Y (jm_gr2 _ X.tr G a e N m f _ _ hL hE hA hAn hN hN2 han hen hea hee hel) wJ2_69 (ci := 11) rfl hL ⟨Nat.le_of_ble_eq_true rfl, Nat.le_of_ble_eq_true rfl⟩ ⟨(by first | decide | omega | (dsimp only; omega)), (by first | decide | omega | (dsimp only; omega))⟩ rfl (Nat.le_of_ble_eq_true rfl) dJ2_grow_7 (fun v1 h1 n1 hq _ => ?_) (fun _ _ _ q _ => q.elim)
  obtain ⟨rfl, hq2, hq3⟩ := hq
  rw [hq2, hq3]
  show ga Γ G _ _ _ _ 10 [(0, .ref a)] (.ref n :: [])
  exact ga_aret X Y (Or.inr ⟨_, rfl⟩) (Or.inr ⟨_, rfl⟩) dJ2_grow_10 (by first | decide | omega | (dsimp only; omega)) (by first | decide | omega | (dsimp only; omega)) ⟨rfl, rfl, rfl⟩
set_option maxHeartbeats 4000000 in
theorem jm_gr20 (l : Launch) (hl : l.stackTraces = false) (G : ga_X) (a : Nat) (m : Int32) (h : ga_H) (n : Nat) (hL : h a = some (ga_O 11 [.int m, .ref (G.2.2.2 0), .int 0])) (hA : G.2.1 ≤ a) (hAn : G.2.1 ≤ n) (han : a < n) : ga_C l G yJ2_grow_2 cJ2_grow_2 4 (some (FieldType.array (FieldType.object "java/lang/Object"))) ({ frames := 1, cells := 1, slots := 10, locals := 21 } : Room) [.ref a, .int (nI 1)] h n (fun v' h' n' => v' = some (.ref n) ∧ h' = ga_up (ga_up h n (ga_R G 3 10 (fun _ => none))) a (ga_O 11 [.int m, .ref n, .int 0]) ∧ n' = n + 1) ga_no := by
  refine ga_start hl rfl (Nat.le_of_ble_eq_true rfl) (fun Γ e X Y hnm hxt => ?_)
  subst e
  have X : ga_E Γ G RJ2 cJ2_grow_2 4 := X
  show ga Γ G h n 0 0 0 [(0, .ref a), (1, .int (nI 1))] []
  refine ga_aload_n X 0 dJ2_grow_2_0 rfl rfl ?_
  refine ga_get X in_J2 (ci := 11) rfl 1 (by decide) q114 rfl hL rfl dJ2_grow_2_1 ?_
  refine ga_len0 X dJ2_grow_2_4 ?_
  refine ga_istore_n X [(2, .int 0), (0, .ref a), (1, .int (nI 1))] dJ2_grow_2_5 rfl (by decide) rfl ?_
  refine ga_iload_n X 0 dJ2_grow_2_6 rfl rfl ?_
  refine ga_if_gt X (tgt := 20) dJ2_grow_2_7 (by decide) (fun c_7 => ?_) (fun c_7 => ?_)
  · exact absurd c_7 (by decide)
  · refine ga_aload_n X 1 dJ2_grow_2_10 rfl rfl ?_
    refine ga_get X in_J2 (ci := 11) rfl 1 (by decide) q114 rfl hL rfl dJ2_grow_2_11 ?_
    refine ga_gs0 X q112 dJ2_grow_2_14 ?_
    refine ga_acmp_eq X (rx := some (G.2.2.2 0)) (ry := some (G.2.2.2 0)) rfl rfl (tgt := 45) dJ2_grow_2_17 (by decide) (fun c_17 => ?_) (fun c_17 => ?_)
    · refine ga_aload_n X 1 dJ2_grow_2_45 rfl rfl ?_
      refine ga_bipush X (v := 10) dJ2_grow_2_46 (by decide) ?_
      refine ga_iload_n X 2 dJ2_grow_2_48 rfl rfl ?_
      refine ga_mmax X Y q515 q469 q71 q470 (by first | decide | omega | (dsimp only; omega)) (by first | decide | omega | (dsimp only; omega)) (by first | decide | omega | (dsimp only; omega)) (by first | decide | omega | (dsimp only; omega)) (Nat.le_of_ble_eq_true rfl) dJ2_grow_2_49 ?_
      refine ga_anew X Y (k := 3) rfl (by decide) q516 10 (by decide) (by first | decide | omega | (dsimp only; omega)) (by first | decide | omega | (dsimp only; omega)) (by first | decide | omega | (dsimp only; omega)) dJ2_grow_2_52 ?_
      refine ga_dup_x1 X dJ2_grow_2_55 rfl rfl ?_
      refine ga_putE X in_J2 tyJ2 tyJ2_ok nmJ2 (ci := 11) rfl 1 (by decide) q114 rfl rfl ((ga_up_n (by omega)).trans hL) hA rfl rfl (Nat.le_of_ble_eq_true rfl) (fs' := [.int m, .ref n, .int 0]) rfl dJ2_grow_2_56 ?_
      exact ga_aret X Y (Or.inr ⟨_, rfl⟩) (Or.inr ⟨_, rfl⟩) dJ2_grow_2_59 (by first | decide | omega | (dsimp only; omega)) (by first | decide | omega | (dsimp only; omega)) ⟨rfl, rfl, rfl⟩
    · exact absurd rfl c_17
set_option maxHeartbeats 4000000 in
theorem jm_gr0 (l : Launch) (hl : l.stackTraces = false) (G : ga_X) (a : Nat) (m : Int32) (h : ga_H) (n : Nat) (hL : h a = some (ga_O 11 [.int m, .ref (G.2.2.2 0), .int 0])) (hA : G.2.1 ≤ a) (hAn : G.2.1 ≤ n) (han : a < n) : ga_C l G yJ2_grow cJ2_grow 1 (some (FieldType.array (FieldType.object "java/lang/Object"))) ({ frames := 2, cells := 1, slots := 10, locals := 44 } : Room) [.ref a] h n (fun v' h' n' => v' = some (.ref n) ∧ h' = ga_up (ga_up h n (ga_R G 3 10 (fun _ => none))) a (ga_O 11 [.int m, .ref n, .int 0]) ∧ n' = n + 1) ga_no := by
  refine ga_start hl rfl (Nat.le_of_ble_eq_true rfl) (fun Γ e X Y hnm hxt => ?_)
  subst e
  have X : ga_E Γ G RJ2 cJ2_grow 1 := X
  show ga Γ G h n 0 0 0 [(0, .ref a)] []
  refine ga_aload_n X 0 dJ2_grow_0 rfl rfl ?_
  refine ga_aload_n X 0 dJ2_grow_1 rfl rfl ?_
  refine ga_get X in_J2 (ci := 11) rfl 2 (by decide) q117 rfl hL rfl dJ2_grow_2 ?_
  refine ga_iconst X (v := 1) dJ2_grow_5 (by decide) ?_
  refine ga_iadd X dJ2_grow_6 ?_
  refine ga_callV X Y (jm_gr20 _ X.tr G a m _ _ hL hA hAn han) wJ2_69 (ci := 11) rfl hL ⟨Nat.le_of_ble_eq_true rfl, Nat.le_of_ble_eq_true rfl⟩ ⟨(by first | decide | omega | (dsimp only; omega)), (by first | decide | omega | (dsimp only; omega))⟩ rfl (Nat.le_of_ble_eq_true rfl) dJ2_grow_7 (fun v1 h1 n1 hq _ => ?_) (fun _ _ _ q _ => q.elim)
  obtain ⟨rfl, hq2, hq3⟩ := hq
  rw [hq2, hq3]
  show ga Γ G _ _ _ _ 10 [(0, .ref a)] (.ref n :: [])
  exact ga_aret X Y (Or.inr ⟨_, rfl⟩) (Or.inr ⟨_, rfl⟩) dJ2_grow_10 (by first | decide | omega | (dsimp only; omega)) (by first | decide | omega | (dsimp only; omega)) ⟨rfl, rfl, rfl⟩
