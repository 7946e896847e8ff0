set_option maxRecDepth 100000
def ct_deposit (τ : gm_S) (N : gc_L) (f am : Int32) : Int32 := if 0 ≤ f ∧ f ≤ 5 then (if 1 ≤ am ∧ am ≤ 100000 then (if ((τ 600 (cx f)) = 0) ∧ (¬ (10000000 < ((τ 500 (cx f)) + am))) then 0 else 3) else 2) else 1
def cu_deposit (τ : gm_S) (N : gc_L) (f am : Int32) : gm_S := up2 (up2 τ 500 (cx f) ((τ 500 (cx f)) + am)) 400 (cx f) ((τ 400 (cx f)) + am)
def cd_deposit (τ : gm_S) (N : gc_L) (f am : Int32) : Int32 := (τ 400 (cx f)) + am
set_option maxHeartbeats 4000000 in
theorem cm_deposit (l : Launch) (hl : l.stackTraces = false) (G : ga_X) (L N : gc_L) (τ : gm_S) (f am : Int32)  : gs_C l G yX1_deposit cX1_deposit 3 (some FieldType.int) ({ frames := 9, cells := 3, slots := 18, locals := 120 } : Room) [.ref (L 0 0), .int f, .int am] L N τ (ct_deposit τ N f am) (some (.int (cd_deposit τ N f am))) (cu_deposit τ N f am) := by
  refine gs_start RX1 hl rfl (by decide) (Nat.le_of_ble_eq_true rfl) (fun Γ h1 h n0 n1 n e X Y hP hn hF hn1 hn01 hxt => ?_)
  subst e
  show ga Γ G h n 0 0 0 [(0, .ref (L 0 0)), (1, .int f), (2, .int am)] []
  refine ga_iload_n X 1 dX1_deposit_0 rfl rfl ?_
  refine gp_callS X Y (cs_isFirm _ X.tr G f) wX1_37 ⟨rfl, rfl⟩ ⟨by decide, by decide⟩ ⟨(by first | decide | omega | (dsimp only; omega)), (by first | decide | omega | (dsimp only; omega))⟩ rfl (Nat.le_of_ble_eq_true rfl) dX1_deposit_1 ?_
  refine ga_callS X Y (cm_place _ X.tr G (0 ≤ f ∧ f ≤ 5) _ _) wX1_41 ⟨Nat.le_of_ble_eq_true rfl, Nat.le_of_ble_eq_true rfl⟩ ⟨(by first | decide | omega | (dsimp only; omega)), (by first | decide | omega | (dsimp only; omega))⟩ rfl (Nat.le_of_ble_eq_true rfl) dX1_deposit_4 (fun v9 h9 n9 hq _ => ?_) (fun E9 h9 n9 hq _ => ?_)
  rotate_left
  · obtain ⟨hc, rfl, hq2, hq3⟩ := hq
    exact ga_out X Y (fun x hx => (hxt x hx).elim) (by first | decide | omega | (dsimp only; omega)) (by first | decide | omega | (dsimp only; omega)) ⟨by unfold ct_deposit; rw [if_neg hc]; decide, by unfold ct_deposit; rw [if_neg hc]; rfl, Nat.le_trans hn1 hq3, by rw [hq2]; exact hF⟩
  obtain ⟨hp_1, rfl, hq2, hq3⟩ := hq
  rw [hq2, hq3]
  refine ga_widen (k2 := 1) (n2 := 6) (by first | decide | omega | (dsimp only; omega)) (by first | decide | omega | (dsimp only; omega)) ?_
  show ga Γ G _ _ _ _ 7 [(0, .ref (L 0 0)), (1, .int f), (2, .int am)] ([])
  have rl_1 := cx_lt hp_1 (m := 6) (by decide) (by decide)
  refine ga_iload_n X 2 dX1_deposit_7 rfl rfl ?_
  refine ga_iconst X (v := 1) dX1_deposit_8 (by decide) ?_
  refine ga_ldc X q342 dX1_deposit_9 ?_
  refine gp_callS X Y (cs_isIn _ X.tr G am 1 100000) wX1_46 ⟨rfl, rfl⟩ ⟨by decide, by decide⟩ ⟨(by first | decide | omega | (dsimp only; omega)), (by first | decide | omega | (dsimp only; omega))⟩ rfl (Nat.le_of_ble_eq_true rfl) dX1_deposit_11 ?_
  refine ga_callS X Y (cm_check _ X.tr G (1 ≤ am ∧ am ≤ 100000) _ _) wX1_50 ⟨Nat.le_of_ble_eq_true rfl, Nat.le_of_ble_eq_true rfl⟩ ⟨(by first | decide | omega | (dsimp only; omega)), (by first | decide | omega | (dsimp only; omega))⟩ rfl (Nat.le_of_ble_eq_true rfl) dX1_deposit_14 (fun v9 h9 n9 hq _ => ?_) (fun E9 h9 n9 hq _ => ?_)
  rotate_left
  · obtain ⟨hc, rfl, hq2, hq3⟩ := hq
    exact ga_out X Y (fun x hx => (hxt x hx).elim) (by first | decide | omega | (dsimp only; omega)) (by first | decide | omega | (dsimp only; omega)) ⟨by unfold ct_deposit; rw [if_pos hp_1, if_neg hc]; decide, by unfold ct_deposit; rw [if_pos hp_1, if_neg hc]; rfl, Nat.le_trans hn1 hq3, by rw [hq2]; exact hF⟩
  obtain ⟨hp_2, rfl, hq2, hq3⟩ := hq
  rw [hq2, hq3]
  refine ga_widen (k2 := 2) (n2 := 12) (by first | decide | omega | (dsimp only; omega)) (by first | decide | omega | (dsimp only; omega)) ?_
  show ga Γ G _ _ _ _ 17 [(0, .ref (L 0 0)), (1, .int f), (2, .int am)] ([])
  refine ga_aload_n X 0 dX1_deposit_17 rfl rfl ?_
  refine ga_get X in_X1 (ci := 0) rfl 5 (by decide) q193 rfl hP.r0 rfl dX1_deposit_18 ?_
  refine ga_iload_n X 1 dX1_deposit_21 rfl rfl ?_
  refine ga_zald X (cx f) (cx_e hp_1) (by omega) (by decide) hP.r6.1 dX1_deposit_22 ?_
  have J44 : ∀ (v44 : Int32), v44 = (bI (((τ 600 (cx f)) = 0) ∧ (¬ (10000000 < ((τ 500 (cx f)) + am))))) → ga Γ G h n 2 12 44 [(0, .ref (L 0 0)), (1, .int f), (2, .int am)] (.int v44 :: []) := by
    intro v44 ev44
    subst ev44
    refine ga_callS X Y (cm_allow _ X.tr G (((τ 600 (cx f)) = 0) ∧ (¬ (10000000 < ((τ 500 (cx f)) + am)))) _ _) wX1_54 ⟨Nat.le_of_ble_eq_true rfl, Nat.le_of_ble_eq_true rfl⟩ ⟨(by first | decide | omega | (dsimp only; omega)), (by first | decide | omega | (dsimp only; omega))⟩ rfl (Nat.le_of_ble_eq_true rfl) dX1_deposit_44 (fun v9 h9 n9 hq _ => ?_) (fun E9 h9 n9 hq _ => ?_)
    rotate_left
    · obtain ⟨hc, rfl, hq2, hq3⟩ := hq
      exact ga_out X Y (fun x hx => (hxt x hx).elim) (by first | decide | omega | (dsimp only; omega)) (by first | decide | omega | (dsimp only; omega)) ⟨by unfold ct_deposit; rw [if_pos hp_1, if_pos hp_2, if_neg hc]; decide, by unfold ct_deposit; rw [if_pos hp_1, if_pos hp_2, if_neg hc]; rfl, Nat.le_trans hn1 hq3, by rw [hq2]; exact hF⟩
    obtain ⟨hp_3, rfl, hq2, hq3⟩ := hq
    rw [hq2, hq3]
    refine ga_widen (k2 := 3) (n2 := 18) (by first | decide | omega | (dsimp only; omega)) (by first | decide | omega | (dsimp only; omega)) ?_
    show ga Γ G _ _ _ _ 47 [(0, .ref (L 0 0)), (1, .int f), (2, .int am)] ([])
    refine ga_aload_n X 0 dX1_deposit_47 rfl rfl ?_
    refine ga_get X in_X1 (ci := 0) rfl 4 (by decide) q192 rfl hP.r0 rfl dX1_deposit_48 ?_
    refine ga_iload_n X 1 dX1_deposit_51 rfl rfl ?_
    refine ga_dup2 X dX1_deposit_52 rfl rfl ?_
    refine ga_iald X (cx f) (cx_e hp_1) (by omega) (by decide) hP.r5 dX1_deposit_53 ?_
    refine ga_iload_n X 2 dX1_deposit_54 rfl rfl ?_
    refine ga_iadd X dX1_deposit_55 ?_
    refine ga_iast X (cx f) (cx_e hp_1) (by omega) (by decide) hP.r5 (hP.A hP.l5) dX1_deposit_56 ?_
    have hF : gc_V1 L N n0 n1 h1 h := gc_V1.of hF
    refine gs_w (P := fun h => ga Γ G h n 3 18 57 [(0, .ref (L 0 0)), (1, .int f), (2, .int am)] ([])) (hP.up1 500 (cx f) ((τ 500 (cx f)) + am) (k := 5) (i := 0) rfl rfl hP.l5 ⟨rfl, congrArg (ga_I G 6) up2_s.symm⟩) hP.l5 hF (fun h hP hF hk => ?_)
    refine ga_aload_n X 0 dX1_deposit_57 rfl rfl ?_
    refine ga_get X in_X1 (ci := 0) rfl 3 (by decide) q191 rfl hP.r0 rfl dX1_deposit_58 ?_
    refine ga_iload_n X 1 dX1_deposit_61 rfl rfl ?_
    refine ga_dup2 X dX1_deposit_62 rfl rfl ?_
    refine ga_iald X (cx f) (cx_e hp_1) (by omega) (by decide) hP.r4 dX1_deposit_63 ?_
    refine ga_st (st' := .int (τ 400 (cx f)) :: .int f :: .ref (L 4 0) :: []) (by rw [show (up2 τ 500 (cx f) ((τ 500 (cx f)) + am)) 400 (cx f) = (τ 400 (cx f)) from rfl]) ?_
    refine ga_iload_n X 2 dX1_deposit_64 rfl rfl ?_
    refine ga_iadd X dX1_deposit_65 ?_
    refine ga_iast X (cx f) (cx_e hp_1) (by omega) (by decide) hP.r4 (hP.A hP.l4) dX1_deposit_66 ?_
    refine gs_w (P := fun h => ga Γ G h n 3 18 67 [(0, .ref (L 0 0)), (1, .int f), (2, .int am)] ([])) (hP.up1 400 (cx f) ((τ 400 (cx f)) + am) (k := 4) (i := 0) rfl rfl hP.l4 ⟨rfl, congrArg (ga_I G 6) up2_s.symm⟩) hP.l4 hF (fun h hP hF hk => ?_)
    refine ga_aload_n X 0 dX1_deposit_67 rfl rfl ?_
    refine ga_get X in_X1 (ci := 0) rfl 3 (by decide) q191 rfl hP.r0 rfl dX1_deposit_68 ?_
    refine ga_iload_n X 1 dX1_deposit_71 rfl rfl ?_
    refine ga_iald X (cx f) (cx_e hp_1) (by omega) (by decide) hP.r4 dX1_deposit_72 ?_
    refine ga_st (st' := .int ((τ 400 (cx f)) + am) :: []) (by rw [show (up2 (up2 τ 500 (cx f) ((τ 500 (cx f)) + am)) 400 (cx f) ((τ 400 (cx f)) + am)) 400 (cx f) = ((τ 400 (cx f)) + am) from (by repeat (first | exact up2_ss | rw [up2_n (by decide)]))]) ?_
    exact ga_iret X Y dX1_deposit_73 (by first | decide | omega | (dsimp only; omega)) (by first | decide | omega | (dsimp only; omega)) ⟨by unfold ct_deposit; rw [if_pos hp_1, if_pos hp_2, if_pos hp_3], congrArg (fun z => some (Value.int z)) (show ((τ 400 (cx f)) + am) = cd_deposit τ N f am from by unfold cd_deposit; exact (rfl).symm), hn1, (show gc_P G L N (cu_deposit τ N f am) n0 h from (show (up2 (up2 τ 500 (cx f) ((τ 500 (cx f)) + am)) 400 (cx f) ((τ 400 (cx f)) + am)) = cu_deposit τ N f am from by unfold cu_deposit; exact (rfl).symm) ▸ hP), hF.1, hF.2⟩
  refine ga_if_ne X (tgt := 43) dX1_deposit_23 (by decide) (fun c_23 => ?_) (fun c_23 => ?_)
  · refine ga_iconst X (v := 0) dX1_deposit_43 (by decide) ?_
    exact J44 _ ((bI_f (fun hh => c_23 hh.1)).symm)
  · refine ga_aload_n X 0 dX1_deposit_26 rfl rfl ?_
    refine ga_get X in_X1 (ci := 0) rfl 4 (by decide) q192 rfl hP.r0 rfl dX1_deposit_27 ?_
    refine ga_iload_n X 1 dX1_deposit_30 rfl rfl ?_
    refine ga_iald X (cx f) (cx_e hp_1) (by omega) (by decide) hP.r5 dX1_deposit_31 ?_
    refine ga_iload_n X 2 dX1_deposit_32 rfl rfl ?_
    refine ga_iadd X dX1_deposit_33 ?_
    refine ga_ldc X q362 dX1_deposit_34 ?_
    refine ga_icmp_gt X (tgt := 43) dX1_deposit_36 (by decide) (fun c_36 => ?_) (fun c_36 => ?_)
    · refine ga_iconst X (v := 0) dX1_deposit_43 (by decide) ?_
      exact J44 _ ((bI_f (fun hh => (fun hh => hh c_36) hh.2)).symm)
    · refine ga_iconst X (v := 1) dX1_deposit_39 (by decide) ?_
      refine ga_goto X (tgt := 44) dX1_deposit_40 (by decide) ?_
      exact J44 _ ((bI_t ⟨c_23, c_36⟩).symm)
def ct_setLimit (τ : gm_S) (N : gc_L) (k v : Int32) : Int32 := if 0 ≤ k ∧ k ≤ 2 then (if 0 ≤ v ∧ v ≤ 10 then (if N 40 (N 16 0) = 0 then 0 else 3) else 2) else 1
def cu_setLimit (τ : gm_S) (N : gc_L) (k v : Int32) : gm_S := up2 τ 300 (cx k) v
def cd_setLimit (τ : gm_S) (N : gc_L) (k v : Int32) : Int32 := τ 300 (cx k)
set_option maxHeartbeats 4000000 in
theorem cm_setLimit (l : Launch) (hl : l.stackTraces = false) (G : ga_X) (L N : gc_L) (τ : gm_S) (k v : Int32)  : gs_C l G yX1_setLimit cX1_setLimit 4 (some FieldType.int) ({ frames := 9, cells := 3, slots := 18, locals := 120 } : Room) [.ref (L 0 0), .int k, .int v] L N τ (ct_setLimit τ N k v) (some (.int (cd_setLimit τ N k v))) (cu_setLimit τ N k v) := by
  refine gs_start RX1 hl rfl (by decide) (Nat.le_of_ble_eq_true rfl) (fun Γ h1 h n0 n1 n e X Y hP hn hF hn1 hn01 hxt => ?_)
  subst e
  show ga Γ G h n 0 0 0 [(0, .ref (L 0 0)), (1, .int k), (2, .int v)] []
  refine ga_iload_n X 1 dX1_setLimit_0 rfl rfl ?_
  refine ga_iconst X (v := 0) dX1_setLimit_1 (by decide) ?_
  refine ga_iconst X (v := 2) dX1_setLimit_2 (by decide) ?_
  refine gp_callS X Y (cs_isIn _ X.tr G k 0 2) wX1_46 ⟨rfl, rfl⟩ ⟨by decide, by decide⟩ ⟨(by first | decide | omega | (dsimp only; omega)), (by first | decide | omega | (dsimp only; omega))⟩ rfl (Nat.le_of_ble_eq_true rfl) dX1_setLimit_3 ?_
  refine ga_callS X Y (cm_place _ X.tr G (0 ≤ k ∧ k ≤ 2) _ _) wX1_41 ⟨Nat.le_of_ble_eq_true rfl, Nat.le_of_ble_eq_true rfl⟩ ⟨(by first | decide | omega | (dsimp only; omega)), (by first | decide | omega | (dsimp only; omega))⟩ rfl (Nat.le_of_ble_eq_true rfl) dX1_setLimit_6 (fun v9 h9 n9 hq _ => ?_) (fun E9 h9 n9 hq _ => ?_)
  rotate_left
  · obtain ⟨hc, rfl, hq2, hq3⟩ := hq
    exact ga_out X Y (fun x hx => (hxt x hx).elim) (by first | decide | omega | (dsimp only; omega)) (by first | decide | omega | (dsimp only; omega)) ⟨by unfold ct_setLimit; rw [if_neg hc]; decide, by unfold ct_setLimit; rw [if_neg hc]; rfl, Nat.le_trans hn1 hq3, by rw [hq2]; exact hF⟩
  obtain ⟨hp_1, rfl, hq2, hq3⟩ := hq
  rw [hq2, hq3]
  refine ga_widen (k2 := 1) (n2 := 6) (by first | decide | omega | (dsimp only; omega)) (by first | decide | omega | (dsimp only; omega)) ?_
  show ga Γ G _ _ _ _ 9 [(0, .ref (L 0 0)), (1, .int k), (2, .int v)] ([])
  have rl_1 := cx_lt hp_1 (m := 3) (by decide) (by decide)
  refine ga_iload_n X 2 dX1_setLimit_9 rfl rfl ?_
  refine ga_iconst X (v := 0) dX1_setLimit_10 (by decide) ?_
  refine ga_bipush X (v := 10) dX1_setLimit_11 (by decide) ?_
  refine gp_callS X Y (cs_isIn _ X.tr G v 0 10) wX1_46 ⟨rfl, rfl⟩ ⟨by decide, by decide⟩ ⟨(by first | decide | omega | (dsimp only; omega)), (by first | decide | omega | (dsimp only; omega))⟩ rfl (Nat.le_of_ble_eq_true rfl) dX1_setLimit_13 ?_
  refine ga_callS X Y (cm_check _ X.tr G (0 ≤ v ∧ v ≤ 10) _ _) wX1_50 ⟨Nat.le_of_ble_eq_true rfl, Nat.le_of_ble_eq_true rfl⟩ ⟨(by first | decide | omega | (dsimp only; omega)), (by first | decide | omega | (dsimp only; omega))⟩ rfl (Nat.le_of_ble_eq_true rfl) dX1_setLimit_16 (fun v9 h9 n9 hq _ => ?_) (fun E9 h9 n9 hq _ => ?_)
  rotate_left
  · obtain ⟨hc, rfl, hq2, hq3⟩ := hq
    exact ga_out X Y (fun x hx => (hxt x hx).elim) (by first | decide | omega | (dsimp only; omega)) (by first | decide | omega | (dsimp only; omega)) ⟨by unfold ct_setLimit; rw [if_pos hp_1, if_neg hc]; decide, by unfold ct_setLimit; rw [if_pos hp_1, if_neg hc]; rfl, Nat.le_trans hn1 hq3, by rw [hq2]; exact hF⟩
  obtain ⟨hp_2, rfl, hq2, hq3⟩ := hq
  rw [hq2, hq3]
  refine ga_widen (k2 := 2) (n2 := 12) (by first | decide | omega | (dsimp only; omega)) (by first | decide | omega | (dsimp only; omega)) ?_
  show ga Γ G _ _ _ _ 19 [(0, .ref (L 0 0)), (1, .int k), (2, .int v)] ([])
  refine ga_aload_n X 0 dX1_setLimit_19 rfl rfl ?_
  refine ga_get X in_X1 (ci := 0) rfl 1 (by decide) q189 rfl hP.r0 rfl dX1_setLimit_20 ?_
  refine ga_getN X in_X2 (ci := 1) rfl 6 (by decide) q155 rfl (hP.r36 (Nat.le_refl _)) rfl dX1_setLimit_23 ?_
  have J34 : ∀ (v34 : Int32), v34 = (bI (N 40 (N 16 0) = 0)) → ga Γ G h n 2 12 34 [(0, .ref (L 0 0)), (1, .int k), (2, .int v)] (.int v34 :: []) := by
    intro v34 ev34
    subst ev34
    refine ga_callS X Y (cm_allow _ X.tr G (N 40 (N 16 0) = 0) _ _) wX1_54 ⟨Nat.le_of_ble_eq_true rfl, Nat.le_of_ble_eq_true rfl⟩ ⟨(by first | decide | omega | (dsimp only; omega)), (by first | decide | omega | (dsimp only; omega))⟩ rfl (Nat.le_of_ble_eq_true rfl) dX1_setLimit_34 (fun v9 h9 n9 hq _ => ?_) (fun E9 h9 n9 hq _ => ?_)
    rotate_left
    · obtain ⟨hc, rfl, hq2, hq3⟩ := hq
      exact ga_out X Y (fun x hx => (hxt x hx).elim) (by first | decide | omega | (dsimp only; omega)) (by first | decide | omega | (dsimp only; omega)) ⟨by unfold ct_setLimit; rw [if_pos hp_1, if_pos hp_2, if_neg hc]; decide, by unfold ct_setLimit; rw [if_pos hp_1, if_pos hp_2, if_neg hc]; rfl, Nat.le_trans hn1 hq3, by rw [hq2]; exact hF⟩
    obtain ⟨hp_3, rfl, hq2, hq3⟩ := hq
    rw [hq2, hq3]
    refine ga_widen (k2 := 3) (n2 := 18) (by first | decide | omega | (dsimp only; omega)) (by first | decide | omega | (dsimp only; omega)) ?_
    show ga Γ G _ _ _ _ 37 [(0, .ref (L 0 0)), (1, .int k), (2, .int v)] ([])
    refine ga_aload_n X 0 dX1_setLimit_37 rfl rfl ?_
    refine ga_get X in_X1 (ci := 0) rfl 2 (by decide) q190 rfl hP.r0 rfl dX1_setLimit_38 ?_
    refine ga_iload_n X 1 dX1_setLimit_41 rfl rfl ?_
    refine ga_iald X (cx k) (cx_e hp_1) (by omega) (by decide) hP.r3 dX1_setLimit_42 ?_
    refine ga_istore_n X [(3, .int (τ 300 (cx k))), (0, .ref (L 0 0)), (1, .int k), (2, .int v)] dX1_setLimit_43 rfl (by decide) rfl ?_
    refine ga_aload_n X 1 dX1_setLimit_44 rfl rfl ?_
    refine ga_get X in_X1 (ci := 0) rfl 2 (by decide) q190 rfl hP.r0 rfl dX1_setLimit_45 ?_
    refine ga_iload_n X 2 dX1_setLimit_48 rfl rfl ?_
    refine ga_iload_n X 3 dX1_setLimit_49 rfl rfl ?_
    refine ga_iast X (cx k) (cx_e hp_1) (by omega) (by decide) hP.r3 (hP.A hP.l3) dX1_setLimit_50 ?_
    have hF : gc_V1 L N n0 n1 h1 h := gc_V1.of hF
    refine gs_w (P := fun h => ga Γ G h n 3 18 51 [(3, .int (τ 300 (cx k))), (0, .ref (L 0 0)), (1, .int k), (2, .int v)] ([])) (hP.up1 300 (cx k) v (k := 3) (i := 0) rfl rfl hP.l3 ⟨rfl, congrArg (ga_I G 3) up2_s.symm⟩) hP.l3 hF (fun h hP hF hk => ?_)
    refine ga_iload_n X 0 dX1_setLimit_51 rfl rfl ?_
    exact ga_iret X Y dX1_setLimit_52 (by first | decide | omega | (dsimp only; omega)) (by first | decide | omega | (dsimp only; omega)) ⟨by unfold ct_setLimit; rw [if_pos hp_1, if_pos hp_2, if_pos hp_3], congrArg (fun z => some (Value.int z)) (show (τ 300 (cx k)) = cd_setLimit τ N k v from by unfold cd_setLimit; exact (rfl).symm), hn1, (show gc_P G L N (cu_setLimit τ N k v) n0 h from (show (up2 τ 300 (cx k) v) = cu_setLimit τ N k v from by unfold cu_setLimit; exact (rfl).symm) ▸ hP), hF.1, hF.2⟩
  refine ga_ifnonnullI X (tgt := 33) dX1_setLimit_26 (by decide) (fun c_26 => ?_) (fun c_26 => ?_)
  · refine ga_iconst X (v := 0) dX1_setLimit_33 (by decide) ?_
    exact J34 _ ((bI_f c_26).symm)
  · refine ga_iconst X (v := 1) dX1_setLimit_29 (by decide) ?_
    refine ga_goto X (tgt := 34) dX1_setLimit_30 (by decide) ?_
    exact J34 _ ((bI_t c_26).symm)
def ct_link (τ : gm_S) (N : gc_L) (k to g : Int32) : Int32 := if 0 ≤ k ∧ k ≤ ((nI (N 11 (N 16 0))) - 1) then (if ((-1) ≤ to ∧ to ≤ (k - 1)) ∧ ((-1) ≤ g ∧ g ≤ 2) then (if N 40 (N 16 0) = 0 then 0 else 3) else 2) else 1
def cu_link (τ : gm_S) (N : gc_L) (k to g : Int32) : gm_S := up2 (up2 τ 3106 (1024 * (N 16 0) + (cx k)) to) 3107 (1024 * (N 16 0) + (cx k)) g
set_option maxHeartbeats 4000000 in
theorem cm_link (l : Launch) (hl : l.stackTraces = false) (G : ga_X) (L N : gc_L) (τ : gm_S) (k to g : Int32)  : gs_C l G yX1_link cX1_link 4 none ({ frames := 9, cells := 3, slots := 18, locals := 120 } : Room) [.ref (L 0 0), .int k, .int to, .int g] L N τ (ct_link τ N k to g) none (cu_link τ N k to g) := by
  refine gs_start RX1 hl rfl (by decide) (Nat.le_of_ble_eq_true rfl) (fun Γ h1 h n0 n1 n e X Y hP hn hF hn1 hn01 hxt => ?_)
  subst e
  show ga Γ G h n 0 0 0 [(0, .ref (L 0 0)), (1, .int k), (2, .int to), (3, .int g)] []
  refine ga_iload_n X 1 dX1_link_0 rfl rfl ?_
  refine ga_iconst X (v := 0) dX1_link_1 (by decide) ?_
  refine ga_aload_n X 0 dX1_link_2 rfl rfl ?_
  refine ga_get X in_X1 (ci := 0) rfl 1 (by decide) q189 rfl hP.r0 rfl dX1_link_3 ?_
  refine ga_getN X in_X2 (ci := 1) rfl 1 (by decide) q146 rfl (hP.r36 (Nat.le_refl _)) rfl dX1_link_6 ?_
  refine ga_callF X Y (jm_size _ X.tr G (L 11 (N 16 0)) (gc_e G L N 11 (N 16 0)) (N 11 (N 16 0)) (τ 1100 (N 16 0)) _ _ (hP.r11 (Nat.le_refl _))) wX1_70 (ci := 11) rfl (hP.r11 (Nat.le_refl _)) ⟨Nat.le_of_ble_eq_true rfl, Nat.le_of_ble_eq_true rfl⟩ ⟨(by first | decide | omega | (dsimp only; omega)), (by first | decide | omega | (dsimp only; omega))⟩ rfl (Nat.le_of_ble_eq_true rfl) dX1_link_9 (fun v9 h9 n9 hq _ => ?_) (fun _ _ _ q _ => q.elim)
  obtain ⟨rfl, hq2, hq3⟩ := hq
  rw [hq2, hq3]
  show ga Γ G _ _ _ _ 14 [(0, .ref (L 0 0)), (1, .int k), (2, .int to), (3, .int g)] (.int (nI (N 11 (N 16 0))) :: .int 0 :: .int k :: [])
  refine ga_iconst X (v := 1) dX1_link_14 (by decide) ?_
  refine ga_isub X dX1_link_15 ?_
  refine gp_callS X Y (cs_isIn _ X.tr G k 0 ((nI (N 11 (N 16 0))) - 1)) wX1_46 ⟨rfl, rfl⟩ ⟨by decide, by decide⟩ ⟨(by first | decide | omega | (dsimp only; omega)), (by first | decide | omega | (dsimp only; omega))⟩ rfl (Nat.le_of_ble_eq_true rfl) dX1_link_16 ?_
  refine ga_callS X Y (cm_place _ X.tr G (0 ≤ k ∧ k ≤ ((nI (N 11 (N 16 0))) - 1)) _ _) wX1_41 ⟨Nat.le_of_ble_eq_true rfl, Nat.le_of_ble_eq_true rfl⟩ ⟨(by first | decide | omega | (dsimp only; omega)), (by first | decide | omega | (dsimp only; omega))⟩ rfl (Nat.le_of_ble_eq_true rfl) dX1_link_19 (fun v9 h9 n9 hq _ => ?_) (fun E9 h9 n9 hq _ => ?_)
  rotate_left
  · obtain ⟨hc, rfl, hq2, hq3⟩ := hq
    exact ga_out X Y (fun x hx => (hxt x hx).elim) (by first | decide | omega | (dsimp only; omega)) (by first | decide | omega | (dsimp only; omega)) ⟨by unfold ct_link; rw [if_neg hc]; decide, by unfold ct_link; rw [if_neg hc]; rfl, Nat.le_trans hn1 hq3, by rw [hq2]; exact hF⟩
  obtain ⟨hp_1, rfl, hq2, hq3⟩ := hq
  rw [hq2, hq3]
  refine ga_widen (k2 := 1) (n2 := 6) (by first | decide | omega | (dsimp only; omega)) (by first | decide | omega | (dsimp only; omega)) ?_
  show ga Γ G _ _ _ _ 22 [(0, .ref (L 0 0)), (1, .int k), (2, .int to), (3, .int g)] ([])
  have hb_1 : N 11 (N 16 0) < 2147483648 := Nat.lt_of_le_of_lt (hP.n11 _) (by decide)
  obtain ⟨ec_1, rl_1⟩ := cx_cnt hp_1 hb_1
  refine ga_iload_n X 2 dX1_link_22 rfl rfl ?_
  refine ga_iconst X (v := (-1)) dX1_link_23 (by decide) ?_
  refine ga_iload_n X 1 dX1_link_24 rfl rfl ?_
  refine ga_iconst X (v := 1) dX1_link_25 (by decide) ?_
  refine ga_isub X dX1_link_26 ?_
  refine gp_callS X Y (cs_isIn _ X.tr G to (-1) (k - 1)) wX1_46 ⟨rfl, rfl⟩ ⟨by decide, by decide⟩ ⟨(by first | decide | omega | (dsimp only; omega)), (by first | decide | omega | (dsimp only; omega))⟩ rfl (Nat.le_of_ble_eq_true rfl) dX1_link_27 ?_
  have J47 : ∀ (v47 : Int32), v47 = (bI (((-1) ≤ to ∧ to ≤ (k - 1)) ∧ ((-1) ≤ g ∧ g ≤ 2))) → ga Γ G h n 1 6 47 [(0, .ref (L 0 0)), (1, .int k), (2, .int to), (3, .int g)] (.int v47 :: []) := by
    intro v47 ev47
    subst ev47
    refine ga_callS X Y (cm_check _ X.tr G (((-1) ≤ to ∧ to ≤ (k - 1)) ∧ ((-1) ≤ g ∧ g ≤ 2)) _ _) wX1_50 ⟨Nat.le_of_ble_eq_true rfl, Nat.le_of_ble_eq_true rfl⟩ ⟨(by first | decide | omega | (dsimp only; omega)), (by first | decide | omega | (dsimp only; omega))⟩ rfl (Nat.le_of_ble_eq_true rfl) dX1_link_47 (fun v9 h9 n9 hq _ => ?_) (fun E9 h9 n9 hq _ => ?_)
    rotate_left
    · obtain ⟨hc, rfl, hq2, hq3⟩ := hq
      exact ga_out X Y (fun x hx => (hxt x hx).elim) (by first | decide | omega | (dsimp only; omega)) (by first | decide | omega | (dsimp only; omega)) ⟨by unfold ct_link; rw [if_pos hp_1, if_neg hc]; decide, by unfold ct_link; rw [if_pos hp_1, if_neg hc]; rfl, Nat.le_trans hn1 hq3, by rw [hq2]; exact hF⟩
    obtain ⟨hp_2, rfl, hq2, hq3⟩ := hq
    rw [hq2, hq3]
    refine ga_widen (k2 := 2) (n2 := 12) (by first | decide | omega | (dsimp only; omega)) (by first | decide | omega | (dsimp only; omega)) ?_
    show ga Γ G _ _ _ _ 50 [(0, .ref (L 0 0)), (1, .int k), (2, .int to), (3, .int g)] ([])
    refine ga_aload_n X 0 dX1_link_50 rfl rfl ?_
    refine ga_get X in_X1 (ci := 0) rfl 1 (by decide) q189 rfl hP.r0 rfl dX1_link_51 ?_
    refine ga_getN X in_X2 (ci := 1) rfl 6 (by decide) q155 rfl (hP.r36 (Nat.le_refl _)) rfl dX1_link_54 ?_
    have J65 : ∀ (v65 : Int32), v65 = (bI (N 40 (N 16 0) = 0)) → ga Γ G h n 2 12 65 [(0, .ref (L 0 0)), (1, .int k), (2, .int to), (3, .int g)] (.int v65 :: []) := by
      intro v65 ev65
      subst ev65
      refine ga_callS X Y (cm_allow _ X.tr G (N 40 (N 16 0) = 0) _ _) wX1_54 ⟨Nat.le_of_ble_eq_true rfl, Nat.le_of_ble_eq_true rfl⟩ ⟨(by first | decide | omega | (dsimp only; omega)), (by first | decide | omega | (dsimp only; omega))⟩ rfl (Nat.le_of_ble_eq_true rfl) dX1_link_65 (fun v9 h9 n9 hq _ => ?_) (fun E9 h9 n9 hq _ => ?_)
      rotate_left
      · obtain ⟨hc, rfl, hq2, hq3⟩ := hq
        exact ga_out X Y (fun x hx => (hxt x hx).elim) (by first | decide | omega | (dsimp only; omega)) (by first | decide | omega | (dsimp only; omega)) ⟨by unfold ct_link; rw [if_pos hp_1, if_pos hp_2, if_neg hc]; decide, by unfold ct_link; rw [if_pos hp_1, if_pos hp_2, if_neg hc]; rfl, Nat.le_trans hn1 hq3, by rw [hq2]; exact hF⟩
      obtain ⟨hp_3, rfl, hq2, hq3⟩ := hq
      rw [hq2, hq3]
      refine ga_widen (k2 := 3) (n2 := 18) (by first | decide | omega | (dsimp only; omega)) (by first | decide | omega | (dsimp only; omega)) ?_
      show ga Γ G _ _ _ _ 68 [(0, .ref (L 0 0)), (1, .int k), (2, .int to), (3, .int g)] ([])
      refine ga_aload_n X 0 dX1_link_68 rfl rfl ?_
      refine ga_get X in_X1 (ci := 0) rfl 1 (by decide) q189 rfl hP.r0 rfl dX1_link_69 ?_
      refine ga_getN X in_X2 (ci := 1) rfl 1 (by decide) q146 rfl (hP.r36 (Nat.le_refl _)) rfl dX1_link_72 ?_
      refine ga_iload_n X 1 dX1_link_75 rfl rfl ?_
      have hj_1 : cx k < N 11 (N 16 0) := (by omega)
      obtain ⟨f_1, hE_1, hk_1, hb_1, hf_1, he_1⟩ := hP.r21 (Nat.le_refl _) (by omega)
      refine ga_st (st' := .int (nI (cx k)) :: .ref (L 11 (N 16 0)) :: []) (by rw [← ec_1]) ?_
      refine ga_callF X Y (jm_get _ X.tr G (L 11 (N 16 0)) (gc_e G L N 11 (N 16 0)) (N 11 (N 16 0)) (N 21 (N 16 0)) (cx k) _ (τ 1100 (N 16 0)) f_1 _ _ (hP.r11 (Nat.le_refl _)) hE_1 hj_1 hk_1 (by omega) (hf_1 (cx k) hj_1)) wX1_91 (ci := 11) rfl (hP.r11 (Nat.le_refl _)) ⟨Nat.le_of_ble_eq_true rfl, Nat.le_of_ble_eq_true rfl⟩ ⟨(by first | decide | omega | (dsimp only; omega)), (by first | decide | omega | (dsimp only; omega))⟩ rfl (Nat.le_of_ble_eq_true rfl) dX1_link_76 (fun v9 h9 n9 hq _ => ?_) (fun _ _ _ q _ => q.elim)
      obtain ⟨rfl, hq2, hq3⟩ := hq
      rw [hq2, hq3]
      show ga Γ G _ _ _ _ 81 [(0, .ref (L 0 0)), (1, .int k), (2, .int to), (3, .int g)] (.ref (L 31 (1024 * (N 16 0) + (cx k))) :: [])
      refine ga_cast X (ci := 4) rfl q524 (hP.r31 (Nat.le_refl _) hj_1).1 dX1_link_81 ?_
      refine ga_iload_n X 2 dX1_link_84 rfl rfl ?_
      refine ga_putNE X in_X5 tyX5 tyX5_ok nmX5 (ci := 4) rfl 6 (by decide) q545 rfl rfl (hP.r31 (Nat.le_refl _) hj_1).1 (hP.A (hP.l31 (Nat.le_refl _) hj_1)) rfl rfl (Nat.le_of_ble_eq_true rfl) (fs' := [.int (τ 3100 (1024 * (N 16 0) + (cx k))), .int (τ 3101 (1024 * (N 16 0) + (cx k))), .int (τ 3102 (1024 * (N 16 0) + (cx k))), .int (τ 3103 (1024 * (N 16 0) + (cx k))), .int (τ 3104 (1024 * (N 16 0) + (cx k))), .int (τ 3105 (1024 * (N 16 0) + (cx k))), .int to, .int (τ 3107 (1024 * (N 16 0) + (cx k))), .int (τ 3108 (1024 * (N 16 0) + (cx k)))]) rfl dX1_link_85 ?_
      have hF : gc_V1 L N n0 n1 h1 h := gc_V1.of hF
      refine gs_w (P := fun h => ga Γ G h n 3 18 88 [(0, .ref (L 0 0)), (1, .int k), (2, .int to), (3, .int g)] ([])) (hP.up1 3106 (1024 * (N 16 0) + (cx k)) to (k := 31) (i := (1024 * (N 16 0) + (cx k))) rfl rfl (hP.l31 (Nat.le_refl _) hj_1) ⟨by simp [up2, upd], (by rw [up2_n (by decide)]; exact (hP.r31 (Nat.le_refl _) hj_1).2.1), (by rw [up2_n (by decide)]; exact (hP.r31 (Nat.le_refl _) hj_1).2.2)⟩) (hP.l31 (Nat.le_refl _) hj_1) hF (fun h hP hF hk => ?_)
      refine ga_aload_n X 0 dX1_link_88 rfl rfl ?_
      refine ga_get X in_X1 (ci := 0) rfl 1 (by decide) q189 rfl hP.r0 rfl dX1_link_89 ?_
      refine ga_getN X in_X2 (ci := 1) rfl 1 (by decide) q146 rfl (hP.r36 (Nat.le_refl _)) rfl dX1_link_92 ?_
      refine ga_iload_n X 1 dX1_link_95 rfl rfl ?_
      have hj_2 : cx k < N 11 (N 16 0) := (by omega)
      obtain ⟨f_2, hE_2, hk_2, hb_2, hf_2, he_2⟩ := hP.r21 (Nat.le_refl _) (by omega)
      refine ga_st (st' := .int (nI (cx k)) :: .ref (L 11 (N 16 0)) :: []) (by rw [← ec_1]) ?_
      refine ga_callF X Y (jm_get _ X.tr G (L 11 (N 16 0)) (gc_e G L N 11 (N 16 0)) (N 11 (N 16 0)) (N 21 (N 16 0)) (cx k) _ ((up2 τ 3106 (1024 * (N 16 0) + (cx k)) to) 1100 (N 16 0)) f_2 _ _ (hP.r11 (Nat.le_refl _)) hE_2 hj_2 hk_2 (by omega) (hf_2 (cx k) hj_2)) wX1_91 (ci := 11) rfl (hP.r11 (Nat.le_refl _)) ⟨Nat.le_of_ble_eq_true rfl, Nat.le_of_ble_eq_true rfl⟩ ⟨(by first | decide | omega | (dsimp only; omega)), (by first | decide | omega | (dsimp only; omega))⟩ rfl (Nat.le_of_ble_eq_true rfl) dX1_link_96 (fun v9 h9 n9 hq _ => ?_) (fun _ _ _ q _ => q.elim)
      obtain ⟨rfl, hq2, hq3⟩ := hq
      rw [hq2, hq3]
      show ga Γ G _ _ _ _ 101 [(0, .ref (L 0 0)), (1, .int k), (2, .int to), (3, .int g)] (.ref (L 31 (1024 * (N 16 0) + (cx k))) :: [])
      refine ga_cast X (ci := 4) rfl q524 (hP.r31 (Nat.le_refl _) hj_2).1 dX1_link_101 ?_
      refine ga_iload_n X 3 dX1_link_104 rfl rfl ?_
      refine ga_putNE X in_X5 tyX5 tyX5_ok nmX5 (ci := 4) rfl 7 (by decide) q547 rfl rfl (hP.r31 (Nat.le_refl _) hj_2).1 (hP.A (hP.l31 (Nat.le_refl _) hj_2)) rfl rfl (Nat.le_of_ble_eq_true rfl) (fs' := [.int ((up2 τ 3106 (1024 * (N 16 0) + (cx k)) to) 3100 (1024 * (N 16 0) + (cx k))), .int ((up2 τ 3106 (1024 * (N 16 0) + (cx k)) to) 3101 (1024 * (N 16 0) + (cx k))), .int ((up2 τ 3106 (1024 * (N 16 0) + (cx k)) to) 3102 (1024 * (N 16 0) + (cx k))), .int ((up2 τ 3106 (1024 * (N 16 0) + (cx k)) to) 3103 (1024 * (N 16 0) + (cx k))), .int ((up2 τ 3106 (1024 * (N 16 0) + (cx k)) to) 3104 (1024 * (N 16 0) + (cx k))), .int ((up2 τ 3106 (1024 * (N 16 0) + (cx k)) to) 3105 (1024 * (N 16 0) + (cx k))), .int ((up2 τ 3106 (1024 * (N 16 0) + (cx k)) to) 3106 (1024 * (N 16 0) + (cx k))), .int g, .int ((up2 τ 3106 (1024 * (N 16 0) + (cx k)) to) 3108 (1024 * (N 16 0) + (cx k)))]) rfl dX1_link_105 ?_
      refine gs_w (P := fun h => ga Γ G h n 3 18 108 [(0, .ref (L 0 0)), (1, .int k), (2, .int to), (3, .int g)] ([])) (hP.up1 3107 (1024 * (N 16 0) + (cx k)) g (k := 31) (i := (1024 * (N 16 0) + (cx k))) rfl rfl (hP.l31 (Nat.le_refl _) hj_2) ⟨by simp [up2, upd], (by rw [up2_n (by decide)]; exact (hP.r31 (Nat.le_refl _) hj_2).2.1), (by rw [up2_n (by decide)]; exact (hP.r31 (Nat.le_refl _) hj_2).2.2)⟩) (hP.l31 (Nat.le_refl _) hj_2) hF (fun h hP hF hk => ?_)
      exact ga_vret X Y dX1_link_108 (by first | decide | omega | (dsimp only; omega)) (by first | decide | omega | (dsimp only; omega)) ⟨by unfold ct_link; rw [if_pos hp_1, if_pos hp_2, if_pos hp_3], rfl, hn1, (show gc_P G L N (cu_link τ N k to g) n0 h from (show (up2 (up2 τ 3106 (1024 * (N 16 0) + (cx k)) to) 3107 (1024 * (N 16 0) + (cx k)) g) = cu_link τ N k to g from by unfold cu_link; exact (rfl).symm) ▸ hP), hF.1, hF.2⟩
    refine ga_ifnonnullI X (tgt := 64) dX1_link_57 (by decide) (fun c_57 => ?_) (fun c_57 => ?_)
    · refine ga_iconst X (v := 0) dX1_link_64 (by decide) ?_
      exact J65 _ ((bI_f c_57).symm)
    · refine ga_iconst X (v := 1) dX1_link_60 (by decide) ?_
      refine ga_goto X (tgt := 65) dX1_link_61 (by decide) ?_
      exact J65 _ ((bI_t c_57).symm)
  refine ga_ifb_eq X (tgt := 46) dX1_link_30 (by decide) (fun c_30 => ?_) (fun c_30 => ?_)
  · refine ga_iconst X (v := 0) dX1_link_46 (by decide) ?_
    exact J47 _ ((bI_f (fun hh => c_30 hh.1)).symm)
  · refine ga_iload_n X 3 dX1_link_33 rfl rfl ?_
    refine ga_iconst X (v := (-1)) dX1_link_34 (by decide) ?_
    refine ga_iconst X (v := 2) dX1_link_35 (by decide) ?_
    refine gp_callS X Y (cs_isIn _ X.tr G g (-1) 2) wX1_46 ⟨rfl, rfl⟩ ⟨by decide, by decide⟩ ⟨(by first | decide | omega | (dsimp only; omega)), (by first | decide | omega | (dsimp only; omega))⟩ rfl (Nat.le_of_ble_eq_true rfl) dX1_link_36 ?_
    refine ga_ifb_eq X (tgt := 46) dX1_link_39 (by decide) (fun c_39 => ?_) (fun c_39 => ?_)
    · refine ga_iconst X (v := 0) dX1_link_46 (by decide) ?_
      exact J47 _ ((bI_f (fun hh => c_39 hh.2)).symm)
    · refine ga_iconst X (v := 1) dX1_link_42 (by decide) ?_
      refine ga_goto X (tgt := 47) dX1_link_43 (by decide) ?_
      exact J47 _ ((bI_t ⟨c_30, c_39⟩).symm)
def ct_takeBack (τ : gm_S) (N : gc_L) (k : Int32) : Int32 := if 0 ≤ k ∧ k ≤ ((nI (N 13 (N 16 0))) - 1) then (if ¬ ((τ 3305 (1024 * (N 16 0) + (cx k))) ≤ 0) then 0 else 3) else 1
def cu_takeBack (τ : gm_S) (N : gc_L) (k : Int32) : gm_S := up2 τ 3305 (1024 * (N 16 0) + (cx k)) 0
def cd_takeBack (τ : gm_S) (N : gc_L) (k : Int32) : Int32 := τ 3305 (1024 * (N 16 0) + (cx k))
set_option maxHeartbeats 4000000 in
theorem cm_takeBack (l : Launch) (hl : l.stackTraces = false) (G : ga_X) (L N : gc_L) (τ : gm_S) (k : Int32)  : gs_C l G yX1_takeBack cX1_takeBack 4 (some FieldType.int) ({ frames := 9, cells := 3, slots := 18, locals := 120 } : Room) [.ref (L 0 0), .int k] L N τ (ct_takeBack τ N k) (some (.int (cd_takeBack τ N k))) (cu_takeBack τ N k) := by
  refine gs_start RX1 hl rfl (by decide) (Nat.le_of_ble_eq_true rfl) (fun Γ h1 h n0 n1 n e X Y hP hn hF hn1 hn01 hxt => ?_)
  subst e
  show ga Γ G h n 0 0 0 [(0, .ref (L 0 0)), (1, .int k)] []
  refine ga_iload_n X 1 dX1_takeBack_0 rfl rfl ?_
  refine ga_iconst X (v := 0) dX1_takeBack_1 (by decide) ?_
  refine ga_aload_n X 0 dX1_takeBack_2 rfl rfl ?_
  refine ga_get X in_X1 (ci := 0) rfl 1 (by decide) q189 rfl hP.r0 rfl dX1_takeBack_3 ?_
  refine ga_getN X in_X2 (ci := 1) rfl 3 (by decide) q150 rfl (hP.r36 (Nat.le_refl _)) rfl dX1_takeBack_6 ?_
  refine ga_callF X Y (jm_size _ X.tr G (L 13 (N 16 0)) (gc_e G L N 13 (N 16 0)) (N 13 (N 16 0)) (τ 1300 (N 16 0)) _ _ (hP.r13 (Nat.le_refl _))) wX1_70 (ci := 11) rfl (hP.r13 (Nat.le_refl _)) ⟨Nat.le_of_ble_eq_true rfl, Nat.le_of_ble_eq_true rfl⟩ ⟨(by first | decide | omega | (dsimp only; omega)), (by first | decide | omega | (dsimp only; omega))⟩ rfl (Nat.le_of_ble_eq_true rfl) dX1_takeBack_9 (fun v9 h9 n9 hq _ => ?_) (fun _ _ _ q _ => q.elim)
  obtain ⟨rfl, hq2, hq3⟩ := hq
  rw [hq2, hq3]
  show ga Γ G _ _ _ _ 14 [(0, .ref (L 0 0)), (1, .int k)] (.int (nI (N 13 (N 16 0))) :: .int 0 :: .int k :: [])
  refine ga_iconst X (v := 1) dX1_takeBack_14 (by decide) ?_
  refine ga_isub X dX1_takeBack_15 ?_
  refine gp_callS X Y (cs_isIn _ X.tr G k 0 ((nI (N 13 (N 16 0))) - 1)) wX1_46 ⟨rfl, rfl⟩ ⟨by decide, by decide⟩ ⟨(by first | decide | omega | (dsimp only; omega)), (by first | decide | omega | (dsimp only; omega))⟩ rfl (Nat.le_of_ble_eq_true rfl) dX1_takeBack_16 ?_
  refine ga_callS X Y (cm_place _ X.tr G (0 ≤ k ∧ k ≤ ((nI (N 13 (N 16 0))) - 1)) _ _) wX1_41 ⟨Nat.le_of_ble_eq_true rfl, Nat.le_of_ble_eq_true rfl⟩ ⟨(by first | decide | omega | (dsimp only; omega)), (by first | decide | omega | (dsimp only; omega))⟩ rfl (Nat.le_of_ble_eq_true rfl) dX1_takeBack_19 (fun v9 h9 n9 hq _ => ?_) (fun E9 h9 n9 hq _ => ?_)
  rotate_left
  · obtain ⟨hc, rfl, hq2, hq3⟩ := hq
    exact ga_out X Y (fun x hx => (hxt x hx).elim) (by first | decide | omega | (dsimp only; omega)) (by first | decide | omega | (dsimp only; omega)) ⟨by unfold ct_takeBack; rw [if_neg hc]; decide, by unfold ct_takeBack; rw [if_neg hc]; rfl, Nat.le_trans hn1 hq3, by rw [hq2]; exact hF⟩
  obtain ⟨hp_1, rfl, hq2, hq3⟩ := hq
  rw [hq2, hq3]
  refine ga_widen (k2 := 1) (n2 := 6) (by first | decide | omega | (dsimp only; omega)) (by first | decide | omega | (dsimp only; omega)) ?_
  show ga Γ G _ _ _ _ 22 [(0, .ref (L 0 0)), (1, .int k)] ([])
  have hb_1 : N 13 (N 16 0) < 2147483648 := Nat.lt_of_le_of_lt (hP.n13 _) (by decide)
  obtain ⟨ec_1, rl_1⟩ := cx_cnt hp_1 hb_1
  refine ga_aload_n X 0 dX1_takeBack_22 rfl rfl ?_
  refine ga_get X in_X1 (ci := 0) rfl 1 (by decide) q189 rfl hP.r0 rfl dX1_takeBack_23 ?_
  refine ga_getN X in_X2 (ci := 1) rfl 3 (by decide) q150 rfl (hP.r36 (Nat.le_refl _)) rfl dX1_takeBack_26 ?_
  refine ga_iload_n X 1 dX1_takeBack_29 rfl rfl ?_
  have hj_1 : cx k < N 13 (N 16 0) := (by omega)
  obtain ⟨f_1, hE_1, hk_1, hb_1, hf_1, he_1⟩ := hP.r23 (Nat.le_refl _) (by omega)
  refine ga_st (st' := .int (nI (cx k)) :: .ref (L 13 (N 16 0)) :: []) (by rw [← ec_1]) ?_
  refine ga_callF X Y (jm_get _ X.tr G (L 13 (N 16 0)) (gc_e G L N 13 (N 16 0)) (N 13 (N 16 0)) (N 23 (N 16 0)) (cx k) _ (τ 1300 (N 16 0)) f_1 _ _ (hP.r13 (Nat.le_refl _)) hE_1 hj_1 hk_1 (by omega) (hf_1 (cx k) hj_1)) wX1_91 (ci := 11) rfl (hP.r13 (Nat.le_refl _)) ⟨Nat.le_of_ble_eq_true rfl, Nat.le_of_ble_eq_true rfl⟩ ⟨(by first | decide | omega | (dsimp only; omega)), (by first | decide | omega | (dsimp only; omega))⟩ rfl (Nat.le_of_ble_eq_true rfl) dX1_takeBack_30 (fun v9 h9 n9 hq _ => ?_) (fun _ _ _ q _ => q.elim)
  obtain ⟨rfl, hq2, hq3⟩ := hq
  rw [hq2, hq3]
  show ga Γ G _ _ _ _ 35 [(0, .ref (L 0 0)), (1, .int k)] (.ref (L 33 (1024 * (N 16 0) + (cx k))) :: [])
  refine ga_cast X (ci := 8) rfl q1135 (hP.r33 (Nat.le_refl _) (hP.o13 hj_1)) dX1_takeBack_35 ?_
  refine ga_astore_n X [(2, .ref (L 33 (1024 * (N 16 0) + (cx k)))), (0, .ref (L 0 0)), (1, .int k)] dX1_takeBack_38 rfl (by decide) rfl ?_
  refine ga_aload_n X 0 dX1_takeBack_39 rfl rfl ?_
  refine ga_getN X in_X10 (ci := 8) rfl 5 (by decide) q1155 rfl (hP.r33 (Nat.le_refl _) (hP.o13 hj_1)) rfl dX1_takeBack_40 ?_
  have J51 : ∀ (v51 : Int32), v51 = (bI (¬ ((τ 3305 (1024 * (N 16 0) + (cx k))) ≤ 0))) → ga Γ G h n 1 6 51 [(2, .ref (L 33 (1024 * (N 16 0) + (cx k)))), (0, .ref (L 0 0)), (1, .int k)] (.int v51 :: []) := by
    intro v51 ev51
    subst ev51
    refine ga_callS X Y (cm_allow _ X.tr G (¬ ((τ 3305 (1024 * (N 16 0) + (cx k))) ≤ 0)) _ _) wX1_54 ⟨Nat.le_of_ble_eq_true rfl, Nat.le_of_ble_eq_true rfl⟩ ⟨(by first | decide | omega | (dsimp only; omega)), (by first | decide | omega | (dsimp only; omega))⟩ rfl (Nat.le_of_ble_eq_true rfl) dX1_takeBack_51 (fun v9 h9 n9 hq _ => ?_) (fun E9 h9 n9 hq _ => ?_)
    rotate_left
    · obtain ⟨hc, rfl, hq2, hq3⟩ := hq
      exact ga_out X Y (fun x hx => (hxt x hx).elim) (by first | decide | omega | (dsimp only; omega)) (by first | decide | omega | (dsimp only; omega)) ⟨by unfold ct_takeBack; rw [if_pos hp_1, if_neg hc]; decide, by unfold ct_takeBack; rw [if_pos hp_1, if_neg hc]; rfl, Nat.le_trans hn1 hq3, by rw [hq2]; exact hF⟩
    obtain ⟨hp_2, rfl, hq2, hq3⟩ := hq
    rw [hq2, hq3]
    refine ga_widen (k2 := 2) (n2 := 12) (by first | decide | omega | (dsimp only; omega)) (by first | decide | omega | (dsimp only; omega)) ?_
    show ga Γ G _ _ _ _ 54 [(2, .ref (L 33 (1024 * (N 16 0) + (cx k)))), (0, .ref (L 0 0)), (1, .int k)] ([])
    refine ga_aload_n X 0 dX1_takeBack_54 rfl rfl ?_
    refine ga_getN X in_X10 (ci := 8) rfl 5 (by decide) q1155 rfl (hP.r33 (Nat.le_refl _) (hP.o13 hj_1)) rfl dX1_takeBack_55 ?_
    refine ga_istore_n X [(3, .int (τ 3305 (1024 * (N 16 0) + (cx k)))), (2, .ref (L 33 (1024 * (N 16 0) + (cx k)))), (0, .ref (L 0 0)), (1, .int k)] dX1_takeBack_58 rfl (by decide) rfl ?_
    refine ga_aload_n X 1 dX1_takeBack_59 rfl rfl ?_
    refine ga_iconst X (v := 0) dX1_takeBack_60 (by decide) ?_
    refine ga_putNE X in_X10 tyX10 tyX10_ok nmX10 (ci := 8) rfl 5 (by decide) q1155 rfl rfl (hP.r33 (Nat.le_refl _) (hP.o13 hj_1)) (hP.A (hP.l33 (Nat.le_refl _) (hP.o13 hj_1))) rfl rfl (Nat.le_of_ble_eq_true rfl) (fs' := [.int (τ 3300 (1024 * (N 16 0) + (cx k))), .int (τ 3301 (1024 * (N 16 0) + (cx k))), .int (τ 3302 (1024 * (N 16 0) + (cx k))), .int (τ 3303 (1024 * (N 16 0) + (cx k))), .int (τ 3304 (1024 * (N 16 0) + (cx k))), .int 0]) rfl dX1_takeBack_61 ?_
    have hF : gc_V1 L N n0 n1 h1 h := gc_V1.of hF
    refine gs_w (P := fun h => ga Γ G h n 2 12 64 [(3, .int (τ 3305 (1024 * (N 16 0) + (cx k)))), (2, .ref (L 33 (1024 * (N 16 0) + (cx k)))), (0, .ref (L 0 0)), (1, .int k)] ([])) (hP.up1 3305 (1024 * (N 16 0) + (cx k)) 0 (k := 33) (i := (1024 * (N 16 0) + (cx k))) rfl rfl (hP.l33 (Nat.le_refl _) (hP.o13 hj_1)) (by simp [gc_ok, up2, upd])) (hP.l33 (Nat.le_refl _) (hP.o13 hj_1)) hF (fun h hP hF hk => ?_)
    refine ga_iload_n X 0 dX1_takeBack_64 rfl rfl ?_
    exact ga_iret X Y dX1_takeBack_65 (by first | decide | omega | (dsimp only; omega)) (by first | decide | omega | (dsimp only; omega)) ⟨by unfold ct_takeBack; rw [if_pos hp_1, if_pos hp_2], congrArg (fun z => some (Value.int z)) (show (τ 3305 (1024 * (N 16 0) + (cx k))) = cd_takeBack τ N k from by unfold cd_takeBack; exact (rfl).symm), hn1, (show gc_P G L N (cu_takeBack τ N k) n0 h from (show (up2 τ 3305 (1024 * (N 16 0) + (cx k)) 0) = cu_takeBack τ N k from by unfold cu_takeBack; exact (rfl).symm) ▸ hP), hF.1, hF.2⟩
  refine ga_if_le X (tgt := 50) dX1_takeBack_43 (by decide) (fun c_43 => ?_) (fun c_43 => ?_)
  · refine ga_iconst X (v := 0) dX1_takeBack_50 (by decide) ?_
    exact J51 _ ((bI_f (fun hh => hh c_43)).symm)
  · refine ga_iconst X (v := 1) dX1_takeBack_46 (by decide) ?_
    refine ga_goto X (tgt := 51) dX1_takeBack_47 (by decide) ?_
    exact J51 _ ((bI_t c_43).symm)
def ct_read (τ : gm_S) (N : gc_L) (dy f z y u : Int32) : Int32 := if 0 ≤ dy ∧ dy ≤ nI (N 16 0) - 1 then (if (0 ≤ f ∧ f ≤ 5) ∧ ((0 ≤ z ∧ z ≤ 2) ∧ (0 ≤ y ∧ y ≤ 3)) then (if (-200) ≤ u ∧ u ≤ 200 then 0 else 2) else 1) else 1
def cu_read (τ : gm_S) (N : gc_L) (dy f z y u : Int32) : gm_S := up2 (up2 τ 4700 (4 * (3 * (6 * (cx dy) + (cx f)) + (cx z)) + (cx y)) u) 5000 (4 * (3 * (6 * (cx dy) + (cx f)) + (cx z)) + (cx y)) 1
def cd_read (τ : gm_S) (N : gc_L) (dy f z y u : Int32) : Int32 := cd_gap (up2 (up2 τ 4700 (4 * (3 * (6 * (cx dy) + (cx f)) + (cx z)) + (cx y)) u) 5000 (4 * (3 * (6 * (cx dy) + (cx f)) + (cx z)) + (cx y)) 1) N (cx dy) (cx f) (cx z) (cx y)
set_option maxHeartbeats 4000000 in
theorem cm_read (l : Launch) (hl : l.stackTraces = false) (G : ga_X) (L N : gc_L) (τ : gm_S) (dy f z y u : Int32)  : gs_C l G yX1_read cX1_read 7 (some FieldType.int) ({ frames := 10, cells := 6, slots := 30, locals := 141 } : Room) [.ref (L 0 0), .int dy, .int f, .int z, .int y, .int u] L N τ (ct_read τ N dy f z y u) (some (.int (cd_read τ N dy f z y u))) (cu_read τ N dy f z y u) := by
  refine gs_start RX1 hl rfl (by decide) (Nat.le_of_ble_eq_true rfl) (fun Γ h1 h n0 n1 n e X Y hP hn hF hn1 hn01 hxt => ?_)
  subst e
  show ga Γ G h n 0 0 0 [(0, .ref (L 0 0)), (1, .int dy), (2, .int f), (3, .int z), (4, .int y), (5, .int u)] []
  refine ga_aload_n X 0 dX1_read_0 rfl rfl ?_
  refine ga_iload_n X 1 dX1_read_1 rfl rfl ?_
  refine ga_callV X Y (cm_closed _ X.tr G L N τ dy _ _ _ hP hn) wX1_160 (ci := 0) rfl hP.r0 ⟨Nat.le_of_ble_eq_true rfl, Nat.le_of_ble_eq_true rfl⟩ ⟨(by first | decide | omega | (dsimp only; omega)), (by first | decide | omega | (dsimp only; omega))⟩ rfl (Nat.le_of_ble_eq_true rfl) dX1_read_2 (fun v9 h9 n9 hq _ => ?_) (fun E9 h9 n9 hq _ => ?_)
  rotate_left
  · obtain ⟨hc, rfl, hq2, hq3⟩ := hq
    exact ga_out X Y (fun x hx => (hxt x hx).elim) (by first | decide | omega | (dsimp only; omega)) (by first | decide | omega | (dsimp only; omega)) ⟨by unfold ct_read; rw [if_neg hc]; decide, by unfold ct_read; rw [if_neg hc]; rfl, Nat.le_trans hn1 hq3, by rw [hq2]; exact hF⟩
  obtain ⟨hp_1, rfl, hq2, hq3⟩ := hq
  rw [hq2, hq3]
  refine ga_widen (k2 := 1) (n2 := 6) (by first | decide | omega | (dsimp only; omega)) (by first | decide | omega | (dsimp only; omega)) ?_
  show ga Γ G _ _ _ _ 5 [(0, .ref (L 0 0)), (1, .int dy), (2, .int f), (3, .int z), (4, .int y), (5, .int u)] (.ref (L 36 (cx dy)) :: [])
  have hb_1 : N 16 0 < 2147483648 := Nat.lt_of_le_of_lt hP.n16 (by decide)
  obtain ⟨ec_1, rl_1⟩ := cx_cnt hp_1 hb_1
  refine ga_astore X [(6, .ref (L 36 (cx dy))), (0, .ref (L 0 0)), (1, .int dy), (2, .int f), (3, .int z), (4, .int y), (5, .int u)] dX1_read_5 (by decide) rfl ?_
  refine ga_iload_n X 3 dX1_read_7 rfl rfl ?_
  refine gp_callS X Y (cs_isFirm _ X.tr G f) wX1_37 ⟨rfl, rfl⟩ ⟨by decide, by decide⟩ ⟨(by first | decide | omega | (dsimp only; omega)), (by first | decide | omega | (dsimp only; omega))⟩ rfl (Nat.le_of_ble_eq_true rfl) dX1_read_8 ?_
  have J34 : ∀ (v34 : Int32), v34 = (bI ((0 ≤ f ∧ f ≤ 5) ∧ ((0 ≤ z ∧ z ≤ 2) ∧ (0 ≤ y ∧ y ≤ 3)))) → ga Γ G h n 1 6 34 [(6, .ref (L 36 (cx dy))), (0, .ref (L 0 0)), (1, .int dy), (2, .int f), (3, .int z), (4, .int y), (5, .int u)] (.int v34 :: []) := by
    intro v34 ev34
    subst ev34
    refine ga_callS X Y (cm_place _ X.tr G ((0 ≤ f ∧ f ≤ 5) ∧ ((0 ≤ z ∧ z ≤ 2) ∧ (0 ≤ y ∧ y ≤ 3))) _ _) wX1_41 ⟨Nat.le_of_ble_eq_true rfl, Nat.le_of_ble_eq_true rfl⟩ ⟨(by first | decide | omega | (dsimp only; omega)), (by first | decide | omega | (dsimp only; omega))⟩ rfl (Nat.le_of_ble_eq_true rfl) dX1_read_34 (fun v9 h9 n9 hq _ => ?_) (fun E9 h9 n9 hq _ => ?_)
    rotate_left
    · obtain ⟨hc, rfl, hq2, hq3⟩ := hq
      exact ga_out X Y (fun x hx => (hxt x hx).elim) (by first | decide | omega | (dsimp only; omega)) (by first | decide | omega | (dsimp only; omega)) ⟨by unfold ct_read; rw [if_pos hp_1, if_neg hc]; decide, by unfold ct_read; rw [if_pos hp_1, if_neg hc]; rfl, Nat.le_trans hn1 hq3, by rw [hq2]; exact hF⟩
    obtain ⟨hp_2, rfl, hq2, hq3⟩ := hq
    rw [hq2, hq3]
    refine ga_widen (k2 := 2) (n2 := 12) (by first | decide | omega | (dsimp only; omega)) (by first | decide | omega | (dsimp only; omega)) ?_
    show ga Γ G _ _ _ _ 37 [(6, .ref (L 36 (cx dy))), (0, .ref (L 0 0)), (1, .int dy), (2, .int f), (3, .int z), (4, .int y), (5, .int u)] ([])
    have rl_2 := cx_lt hp_2.1 (m := 6) (by decide) (by decide)
    have rl_3 := cx_lt hp_2.2.1 (m := 3) (by decide) (by decide)
    have rl_4 := cx_lt hp_2.2.2 (m := 4) (by decide) (by decide)
    refine ga_iload X 6 dX1_read_37 rfl ?_
    refine ga_sipush X (v := (-200)) dX1_read_39 (by decide) ?_
    refine ga_sipush X (v := 200) dX1_read_42 (by decide) ?_
    refine gp_callS X Y (cs_isIn _ X.tr G u (-200) 200) wX1_46 ⟨rfl, rfl⟩ ⟨by decide, by decide⟩ ⟨(by first | decide | omega | (dsimp only; omega)), (by first | decide | omega | (dsimp only; omega))⟩ rfl (Nat.le_of_ble_eq_true rfl) dX1_read_45 ?_
    refine ga_callS X Y (cm_check _ X.tr G ((-200) ≤ u ∧ u ≤ 200) _ _) wX1_50 ⟨Nat.le_of_ble_eq_true rfl, Nat.le_of_ble_eq_true rfl⟩ ⟨(by first | decide | omega | (dsimp only; omega)), (by first | decide | omega | (dsimp only; omega))⟩ rfl (Nat.le_of_ble_eq_true rfl) dX1_read_48 (fun v9 h9 n9 hq _ => ?_) (fun E9 h9 n9 hq _ => ?_)
    rotate_left
    · obtain ⟨hc, rfl, hq2, hq3⟩ := hq
      exact ga_out X Y (fun x hx => (hxt x hx).elim) (by first | decide | omega | (dsimp only; omega)) (by first | decide | omega | (dsimp only; omega)) ⟨by unfold ct_read; rw [if_pos hp_1, if_pos hp_2, if_neg hc]; decide, by unfold ct_read; rw [if_pos hp_1, if_pos hp_2, if_neg hc]; rfl, Nat.le_trans hn1 hq3, by rw [hq2]; exact hF⟩
    obtain ⟨hp_3, rfl, hq2, hq3⟩ := hq
    rw [hq2, hq3]
    refine ga_widen (k2 := 3) (n2 := 18) (by first | decide | omega | (dsimp only; omega)) (by first | decide | omega | (dsimp only; omega)) ?_
    show ga Γ G _ _ _ _ 51 [(6, .ref (L 36 (cx dy))), (0, .ref (L 0 0)), (1, .int dy), (2, .int f), (3, .int z), (4, .int y), (5, .int u)] ([])
    refine ga_aload X 0 dX1_read_51 rfl ?_
    refine ga_getN X in_X2 (ci := 1) rfl 7 (by decide) q157 rfl (hP.r36 (Nat.le_of_lt rl_1)) rfl dX1_read_53 ?_
    refine ga_iload_n X 3 dX1_read_56 rfl rfl ?_
    obtain ⟨f_1, hf_1, hv_1⟩ := hP.r45 (Nat.le_of_lt rl_1)
    refine ga_aald X (k := 8) (cx f) (cx_e hp_2.1) (by omega) (by decide) rfl rfl hf_1 dX1_read_57 (show va_rf (f_1 (cx f)) = .ref (L 46 (6 * (cx dy) + (cx f))) by rw [hv_1 (cx f) (by omega)]; rfl) ?_
    refine ga_iload_n X 4 dX1_read_58 rfl rfl ?_
    obtain ⟨f_2, hf_2, hv_2⟩ := hP.r46 (Nat.le_of_lt rl_1) (by omega)
    refine ga_aald X (k := 6) (cx z) (cx_e hp_2.2.1) (by omega) (by decide) rfl rfl hf_2 dX1_read_59 (show va_rf (f_2 (cx z)) = .ref (L 47 (3 * (6 * (cx dy) + (cx f)) + (cx z))) by rw [hv_2 (cx z) (by omega)]; rfl) ?_
    refine ga_iload X 5 dX1_read_60 rfl ?_
    refine ga_iload X 6 dX1_read_62 rfl ?_
    obtain ⟨f_3, hf_3, hv_3⟩ := hP.r47 (Nat.le_of_lt rl_1) (by omega) (by omega)
    refine ga_iast X (cx y) (cx_e hp_2.2.2) (by omega) (by decide) hf_3 (hP.A (hP.l47 (Nat.le_of_lt rl_1) (by omega) (by omega))) dX1_read_64 ?_
    have hF : gc_V1 L N n0 n1 h1 h := gc_V1.of hF
    refine gs_w (P := fun h => ga Γ G h n 3 18 65 [(6, .ref (L 36 (cx dy))), (0, .ref (L 0 0)), (1, .int dy), (2, .int f), (3, .int z), (4, .int y), (5, .int u)] ([])) (hP.up1 4700 (4 * (3 * (6 * (cx dy) + (cx f)) + (cx z)) + (cx y)) u (k := 47) (i := (3 * (6 * (cx dy) + (cx f)) + (cx z))) rfl (show (4 * (3 * (6 * (cx dy) + (cx f)) + (cx z)) + (cx y)) / 4 = 3 * (6 * (cx dy) + (cx f)) + (cx z) by omega) (hP.l47 (Nat.le_of_lt rl_1) (by omega) (by omega)) ⟨upd f_3 (cx y) u, rfl, gc_row hv_3⟩) (hP.l47 (Nat.le_of_lt rl_1) (by omega) (by omega)) hF (fun h hP hF hk => ?_)
    refine ga_aload X 0 dX1_read_65 rfl ?_
    refine ga_getN X in_X2 (ci := 1) rfl 8 (by decide) q159 rfl (hP.r36 (Nat.le_of_lt rl_1)) rfl dX1_read_67 ?_
    refine ga_iload_n X 3 dX1_read_70 rfl rfl ?_
    obtain ⟨f_4, hf_4, hv_4⟩ := hP.r48 (Nat.le_of_lt rl_1)
    refine ga_aald X (k := 9) (cx f) (cx_e hp_2.1) (by omega) (by decide) rfl rfl hf_4 dX1_read_71 (show va_rf (f_4 (cx f)) = .ref (L 49 (6 * (cx dy) + (cx f))) by rw [hv_4 (cx f) (by omega)]; rfl) ?_
    refine ga_iload_n X 4 dX1_read_72 rfl rfl ?_
    obtain ⟨f_5, hf_5, hv_5⟩ := hP.r49 (Nat.le_of_lt rl_1) (by omega)
    refine ga_aald X (k := 7) (cx z) (cx_e hp_2.2.1) (by omega) (by decide) rfl rfl hf_5 dX1_read_73 (show va_rf (f_5 (cx z)) = .ref (L 50 (3 * (6 * (cx dy) + (cx f)) + (cx z))) by rw [hv_5 (cx z) (by omega)]; rfl) ?_
    refine ga_iload X 5 dX1_read_74 rfl ?_
    refine ga_iconst X (v := 1) dX1_read_76 (by decide) ?_
    obtain ⟨f_6, hf_6, hv_6⟩ := hP.r50 (Nat.le_of_lt rl_1) (by omega) (by omega)
    refine ga_zast X (cx y) (cx_e hp_2.2.2) (by omega) (by decide) rfl hf_6 (hP.A (hP.l50 (Nat.le_of_lt rl_1) (by omega) (by omega))) dX1_read_77 ?_
    refine gs_w (P := fun h => ga Γ G h n 3 18 78 [(6, .ref (L 36 (cx dy))), (0, .ref (L 0 0)), (1, .int dy), (2, .int f), (3, .int z), (4, .int y), (5, .int u)] ([])) (hP.up1 5000 (4 * (3 * (6 * (cx dy) + (cx f)) + (cx z)) + (cx y)) 1 (k := 50) (i := (3 * (6 * (cx dy) + (cx f)) + (cx z))) rfl (show (4 * (3 * (6 * (cx dy) + (cx f)) + (cx z)) + (cx y)) / 4 = 3 * (6 * (cx dy) + (cx f)) + (cx z) by omega) (hP.l50 (Nat.le_of_lt rl_1) (by omega) (by omega)) ⟨upd f_6 (cx y) 1, rfl, gc_row hv_6⟩) (hP.l50 (Nat.le_of_lt rl_1) (by omega) (by omega)) hF (fun h hP hF hk => ?_)
    refine ga_aload X 0 dX1_read_78 rfl ?_
    refine ga_iload_n X 3 dX1_read_80 rfl rfl ?_
    refine ga_iload_n X 4 dX1_read_81 rfl rfl ?_
    refine ga_iload X 5 dX1_read_82 rfl ?_
    refine ga_st (st' := .int (nI (cx y)) :: .int (nI (cx z)) :: .int (nI (cx f)) :: .ref (L 36 (cx dy)) :: []) (by rw [← (cx_e hp_2.2.2), ← (cx_e hp_2.2.1), ← (cx_e hp_2.1)]) ?_
    refine ga_callV X Y (cm_gap _ X.tr G L N (up2 (up2 τ 4700 (4 * (3 * (6 * (cx dy) + (cx f)) + (cx z)) + (cx y)) u) 5000 (4 * (3 * (6 * (cx dy) + (cx f)) + (cx z)) + (cx y)) 1) (cx dy) (cx f) (cx z) (cx y) (Nat.le_of_lt rl_1) (by omega) (by omega) (by omega) _ _ _ hP hn) wX1_172 (ci := 1) rfl (hP.r36 (Nat.le_of_lt rl_1)) ⟨Nat.le_of_ble_eq_true rfl, Nat.le_of_ble_eq_true rfl⟩ ⟨(by first | decide | omega | (dsimp only; omega)), (by first | decide | omega | (dsimp only; omega))⟩ rfl (Nat.le_of_ble_eq_true rfl) dX1_read_84 (fun v9 h n hq _ => ?_) (fun _ _ _ q _ => q.elim)
    obtain ⟨rfl, hq2, hq3⟩ := hq
    have hP := hP.temp (fun a ha => hq3 a (by omega))
    have hF := hF.call hq3 hn1
    have hn := Nat.le_trans hn hq2
    have hn1 := Nat.le_trans hn1 hq2
    refine ga_widen (k2 := 6) (n2 := 30) (by first | decide | omega | (dsimp only; omega)) (by first | decide | omega | (dsimp only; omega)) ?_
    show ga Γ G _ _ _ _ 87 [(6, .ref (L 36 (cx dy))), (0, .ref (L 0 0)), (1, .int dy), (2, .int f), (3, .int z), (4, .int y), (5, .int u)] (.int (cd_gap (up2 (up2 τ 4700 (4 * (3 * (6 * (cx dy) + (cx f)) + (cx z)) + (cx y)) u) 5000 (4 * (3 * (6 * (cx dy) + (cx f)) + (cx z)) + (cx y)) 1) N (cx dy) (cx f) (cx z) (cx y)) :: [])
    exact ga_iret X Y dX1_read_87 (by first | decide | omega | (dsimp only; omega)) (by first | decide | omega | (dsimp only; omega)) ⟨by unfold ct_read; rw [if_pos hp_1, if_pos hp_2, if_pos hp_3], congrArg (fun z => some (Value.int z)) (show (cd_gap (up2 (up2 τ 4700 (4 * (3 * (6 * (cx dy) + (cx f)) + (cx z)) + (cx y)) u) 5000 (4 * (3 * (6 * (cx dy) + (cx f)) + (cx z)) + (cx y)) 1) N (cx dy) (cx f) (cx z) (cx y)) = cd_read τ N dy f z y u from by unfold cd_read; exact (rfl).symm), hn1, (show gc_P G L N (cu_read τ N dy f z y u) n0 h from (show (up2 (up2 τ 4700 (4 * (3 * (6 * (cx dy) + (cx f)) + (cx z)) + (cx y)) u) 5000 (4 * (3 * (6 * (cx dy) + (cx f)) + (cx z)) + (cx y)) 1) = cu_read τ N dy f z y u from by unfold cu_read; exact (rfl).symm) ▸ hP), hF.1, hF.2⟩
  refine ga_ifb_eq X (tgt := 33) dX1_read_11 (by decide) (fun c_11 => ?_) (fun c_11 => ?_)
  · refine ga_iconst X (v := 0) dX1_read_33 (by decide) ?_
    exact J34 _ ((bI_f (fun hh => c_11 hh.1)).symm)
  · refine ga_iload_n X 4 dX1_read_14 rfl rfl ?_
    refine gp_callS X Y (cs_isZone _ X.tr G z) wX1_61 ⟨rfl, rfl⟩ ⟨by decide, by decide⟩ ⟨(by first | decide | omega | (dsimp only; omega)), (by first | decide | omega | (dsimp only; omega))⟩ rfl (Nat.le_of_ble_eq_true rfl) dX1_read_15 ?_
    refine ga_ifb_eq X (tgt := 33) dX1_read_18 (by decide) (fun c_18 => ?_) (fun c_18 => ?_)
    · refine ga_iconst X (v := 0) dX1_read_33 (by decide) ?_
      exact J34 _ ((bI_f (fun hh => (fun hh => c_18 hh.1) hh.2)).symm)
    · refine ga_iload X 5 dX1_read_21 rfl ?_
      refine gp_callS X Y (cs_isHour _ X.tr G y) wX1_64 ⟨rfl, rfl⟩ ⟨by decide, by decide⟩ ⟨(by first | decide | omega | (dsimp only; omega)), (by first | decide | omega | (dsimp only; omega))⟩ rfl (Nat.le_of_ble_eq_true rfl) dX1_read_23 ?_
      refine ga_ifb_eq X (tgt := 33) dX1_read_26 (by decide) (fun c_26 => ?_) (fun c_26 => ?_)
      · refine ga_iconst X (v := 0) dX1_read_33 (by decide) ?_
        exact J34 _ ((bI_f (fun hh => (fun hh => c_26 hh.2) hh.2)).symm)
      · refine ga_iconst X (v := 1) dX1_read_29 (by decide) ?_
        refine ga_goto X (tgt := 34) dX1_read_30 (by decide) ?_
        exact J34 _ ((bI_t ⟨c_11, ⟨c_18, c_26⟩⟩).symm)
