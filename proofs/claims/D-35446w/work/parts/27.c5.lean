set_option maxRecDepth 100000
set_option maxHeartbeats 2000000 in
theorem cs_isIn (l : Launch) (hl : l.stackTraces = false) (G : ga_X) (v lo hi : Int32)  : gp_C l G yX1_isIn cX1_isIn 3 (some .boolean) ({ frames := 0, cells := 0, slots := 0, locals := 0 } : Room) [.int v, .int lo, .int hi] (.int (bI (lo ≤ v ∧ v ≤ hi))) := by
  intro h n
  refine ga_start hl rfl (Nat.le_of_ble_eq_true rfl) (fun Γ e X Y _ _ => ?_)
  subst e
  show ga Γ G h n 0 0 0 [(0, .int v), (1, .int lo), (2, .int hi)] []
  refine ga_iload_n X 0 dX1_isIn_0 rfl rfl ?_
  refine ga_iload_n X 1 dX1_isIn_1 rfl rfl ?_
  have J15 : ∀ (v15 : Int32), v15 = (bI (¬ (v < lo) ∧ (¬ (hi < v)))) → ga Γ G h n 0 0 15 [(0, .int v), (1, .int lo), (2, .int hi)] (.int v15 :: []) := by
    intro v15 ev15
    subst ev15
    exact ga_zret X Y (bI_nar) dX1_isIn_15 (Nat.zero_le _) (Nat.zero_le _) ⟨congrArg (fun z => some (Value.int z)) (bI_c (by simp only [Int32.not_lt])), rfl, rfl⟩
  refine ga_icmp_lt X (tgt := 14) dX1_isIn_2 (by decide) (fun c_2 => ?_) (fun c_2 => ?_)
  · refine ga_iconst X (v := 0) dX1_isIn_14 (by decide) ?_
    exact J15 _ ((bI_f (fun hh => hh.1 c_2)).symm)
  · refine ga_iload_n X 0 dX1_isIn_5 rfl rfl ?_
    refine ga_iload_n X 2 dX1_isIn_6 rfl rfl ?_
    refine ga_icmp_gt X (tgt := 14) dX1_isIn_7 (by decide) (fun c_7 => ?_) (fun c_7 => ?_)
    · refine ga_iconst X (v := 0) dX1_isIn_14 (by decide) ?_
      exact J15 _ ((bI_f (fun hh => (fun hh => hh c_7) hh.2)).symm)
    · refine ga_iconst X (v := 1) dX1_isIn_10 (by decide) ?_
      refine ga_goto X (tgt := 15) dX1_isIn_11 (by decide) ?_
      exact J15 _ ((bI_t ⟨c_2, c_7⟩).symm)
set_option maxHeartbeats 2000000 in
theorem cs_isFirm (l : Launch) (hl : l.stackTraces = false) (G : ga_X) (v : Int32)  : gp_C l G yX1_isFirm cX1_isFirm 1 (some .boolean) ({ frames := 1, cells := 0, slots := 0, locals := 22 } : Room) [.int v] (.int (bI (0 ≤ v ∧ v ≤ 5))) := by
  intro h n
  refine ga_start hl rfl (Nat.le_of_ble_eq_true rfl) (fun Γ e X Y _ _ => ?_)
  subst e
  show ga Γ G h n 0 0 0 [(0, .int v)] []
  refine ga_iload_n X 0 dX1_isFirm_0 rfl rfl ?_
  refine ga_iconst X (v := 0) dX1_isFirm_1 (by decide) ?_
  refine ga_iconst X (v := 5) dX1_isFirm_2 (by decide) ?_
  refine gp_callS X Y (cs_isIn _ X.tr G v 0 5) wX1_46 ⟨rfl, rfl⟩ ⟨by decide, by decide⟩ ⟨Nat.zero_le _, Nat.zero_le _⟩ rfl (Nat.le_of_ble_eq_true rfl) dX1_isFirm_3 ?_
  exact ga_zret X Y (bI_nar) dX1_isFirm_6 (Nat.zero_le _) (Nat.zero_le _) ⟨congrArg (fun z => some (Value.int z)) (rfl), rfl, rfl⟩
set_option maxHeartbeats 2000000 in
theorem cs_isZone (l : Launch) (hl : l.stackTraces = false) (G : ga_X) (v : Int32)  : gp_C l G yX1_isZone cX1_isZone 1 (some .boolean) ({ frames := 1, cells := 0, slots := 0, locals := 22 } : Room) [.int v] (.int (bI (0 ≤ v ∧ v ≤ 2))) := by
  intro h n
  refine ga_start hl rfl (Nat.le_of_ble_eq_true rfl) (fun Γ e X Y _ _ => ?_)
  subst e
  show ga Γ G h n 0 0 0 [(0, .int v)] []
  refine ga_iload_n X 0 dX1_isZone_0 rfl rfl ?_
  refine ga_iconst X (v := 0) dX1_isZone_1 (by decide) ?_
  refine ga_iconst X (v := 2) dX1_isZone_2 (by decide) ?_
  refine gp_callS X Y (cs_isIn _ X.tr G v 0 2) wX1_46 ⟨rfl, rfl⟩ ⟨by decide, by decide⟩ ⟨Nat.zero_le _, Nat.zero_le _⟩ rfl (Nat.le_of_ble_eq_true rfl) dX1_isZone_3 ?_
  exact ga_zret X Y (bI_nar) dX1_isZone_6 (Nat.zero_le _) (Nat.zero_le _) ⟨congrArg (fun z => some (Value.int z)) (rfl), rfl, rfl⟩
set_option maxHeartbeats 2000000 in
theorem cs_isHour (l : Launch) (hl : l.stackTraces = false) (G : ga_X) (v : Int32)  : gp_C l G yX1_isHour cX1_isHour 1 (some .boolean) ({ frames := 1, cells := 0, slots := 0, locals := 22 } : Room) [.int v] (.int (bI (0 ≤ v ∧ v ≤ 3))) := by
  intro h n
  refine ga_start hl rfl (Nat.le_of_ble_eq_true rfl) (fun Γ e X Y _ _ => ?_)
  subst e
  show ga Γ G h n 0 0 0 [(0, .int v)] []
  refine ga_iload_n X 0 dX1_isHour_0 rfl rfl ?_
  refine ga_iconst X (v := 0) dX1_isHour_1 (by decide) ?_
  refine ga_iconst X (v := 3) dX1_isHour_2 (by decide) ?_
  refine gp_callS X Y (cs_isIn _ X.tr G v 0 3) wX1_46 ⟨rfl, rfl⟩ ⟨by decide, by decide⟩ ⟨Nat.zero_le _, Nat.zero_le _⟩ rfl (Nat.le_of_ble_eq_true rfl) dX1_isHour_3 ?_
  exact ga_zret X Y (bI_nar) dX1_isHour_6 (Nat.zero_le _) (Nat.zero_le _) ⟨congrArg (fun z => some (Value.int z)) (rfl), rfl, rfl⟩
def ct_house (τ : gm_S) (N : gc_L) : Int32 := 0
def cd_house (τ : gm_S) (N : gc_L) : Int32 := τ 0 0
set_option maxHeartbeats 4000000 in
theorem cm_house (l : Launch) (hl : l.stackTraces = false) (G : ga_X) (L N : gc_L) (τ : gm_S)  : gt_C l G yX1_house cX1_house 1 (some FieldType.int) ({ frames := 0, cells := 0, slots := 0, locals := 0 } : Room) [.ref (L 0 0)] L N τ (ct_house τ N) (some (.int (cd_house τ N))) := by
  refine gt_start RX1 hl rfl (by decide) (Nat.le_of_ble_eq_true rfl) (fun Γ h1 h n0 n1 n e X Y hP hn hF hn1 hn01 hxt => ?_)
  subst e
  show ga Γ G h n 0 0 0 [(0, .ref (L 0 0))] []
  refine ga_aload_n X 0 dX1_house_0 rfl rfl ?_
  refine ga_get X in_X1 (ci := 0) rfl 6 (by decide) q194 rfl hP.r0 rfl dX1_house_1 ?_
  exact ga_iret X Y dX1_house_4 (by first | decide | omega | (dsimp only; omega)) (by first | decide | omega | (dsimp only; omega)) ⟨rfl, congrArg (fun z => some (Value.int z)) (show (τ 0 0) = cd_house τ N from by unfold cd_house; exact (rfl).symm), hn1, hF⟩
def ct_day (τ : gm_S) (N : gc_L) : Int32 := 0
def cd_day (τ : gm_S) (N : gc_L) : Int32 := nI (N 16 0)
set_option maxHeartbeats 4000000 in
theorem cm_day (l : Launch) (hl : l.stackTraces = false) (G : ga_X) (L N : gc_L) (τ : gm_S)  : gt_C l G yX1_day cX1_day 1 (some FieldType.int) ({ frames := 1, cells := 0, slots := 0, locals := 20 } : Room) [.ref (L 0 0)] L N τ (ct_day τ N) (some (.int (cd_day τ N))) := by
  refine gt_start RX1 hl rfl (by decide) (Nat.le_of_ble_eq_true rfl) (fun Γ h1 h n0 n1 n e X Y hP hn hF hn1 hn01 hxt => ?_)
  subst e
  show ga Γ G h n 0 0 0 [(0, .ref (L 0 0))] []
  refine ga_aload_n X 0 dX1_day_0 rfl rfl ?_
  refine ga_get X in_X1 (ci := 0) rfl 0 (by decide) q188 rfl hP.r0 rfl dX1_day_1 ?_
  refine ga_callF X Y (jm_size _ X.tr G (L 16 0) (gc_e G L N 16 0) (N 16 0) (τ 1600 0) _ _ hP.r16) wX1_70 (ci := 11) rfl hP.r16 ⟨Nat.le_of_ble_eq_true rfl, Nat.le_of_ble_eq_true rfl⟩ ⟨(by first | decide | omega | (dsimp only; omega)), (by first | decide | omega | (dsimp only; omega))⟩ rfl (Nat.le_of_ble_eq_true rfl) dX1_day_4 (fun v9 h9 n9 hq _ => ?_) (fun _ _ _ q _ => q.elim)
  obtain ⟨rfl, hq2, hq3⟩ := hq
  rw [hq2, hq3]
  show ga Γ G _ _ _ _ 9 [(0, .ref (L 0 0))] (.int (nI (N 16 0)) :: [])
  exact ga_iret X Y dX1_day_9 (by first | decide | omega | (dsimp only; omega)) (by first | decide | omega | (dsimp only; omega)) ⟨rfl, congrArg (fun z => some (Value.int z)) (show (nI (N 16 0)) = cd_day τ N from by unfold cd_day; exact (rfl).symm), hn1, hF⟩
def ct_phase (τ : gm_S) (N : gc_L) : Int32 := 0
def cd_phase (τ : gm_S) (N : gc_L) : Int32 := bI (¬ (N 40 (N 16 0) = 0))
set_option maxHeartbeats 4000000 in
theorem cm_phase (l : Launch) (hl : l.stackTraces = false) (G : ga_X) (L N : gc_L) (τ : gm_S)  : gt_C l G yX1_phase cX1_phase 1 (some FieldType.int) ({ frames := 0, cells := 0, slots := 0, locals := 0 } : Room) [.ref (L 0 0)] L N τ (ct_phase τ N) (some (.int (cd_phase τ N))) := by
  refine gt_start RX1 hl rfl (by decide) (Nat.le_of_ble_eq_true rfl) (fun Γ h1 h n0 n1 n e X Y hP hn hF hn1 hn01 hxt => ?_)
  subst e
  show ga Γ G h n 0 0 0 [(0, .ref (L 0 0))] []
  refine ga_aload_n X 0 dX1_phase_0 rfl rfl ?_
  refine ga_get X in_X1 (ci := 0) rfl 1 (by decide) q189 rfl hP.r0 rfl dX1_phase_1 ?_
  refine ga_getN X in_X2 (ci := 1) rfl 6 (by decide) q155 rfl (hP.r36 (Nat.le_refl _)) rfl dX1_phase_4 ?_
  have J15 : ∀ (v15 : Int32), v15 = (bI (¬ (N 40 (N 16 0) = 0))) → ga Γ G h n 0 0 15 [(0, .ref (L 0 0))] (.int v15 :: []) := by
    intro v15 ev15
    subst ev15
    exact ga_iret X Y dX1_phase_15 (by first | decide | omega | (dsimp only; omega)) (by first | decide | omega | (dsimp only; omega)) ⟨rfl, congrArg (fun z => some (Value.int z)) (show (bI (¬ (N 40 (N 16 0) = 0))) = cd_phase τ N from by unfold cd_phase; exact (rfl).symm), hn1, hF⟩
  refine ga_ifnonnullI X (tgt := 14) dX1_phase_7 (by decide) (fun c_7 => ?_) (fun c_7 => ?_)
  · refine ga_iconst X (v := 1) dX1_phase_14 (by decide) ?_
    exact J15 _ ((bI_t c_7).symm)
  · refine ga_iconst X (v := 0) dX1_phase_10 (by decide) ?_
    refine ga_goto X (tgt := 15) dX1_phase_11 (by decide) ?_
    exact J15 _ ((bI_f (fun hh => hh c_7)).symm)
def ct_account (τ : gm_S) (N : gc_L) (f : Int32) : Int32 := if 0 ≤ f ∧ f ≤ 5 then 0 else 1
def cd_account (τ : gm_S) (N : gc_L) (f : Int32) : Int32 := τ 400 (cx f)
set_option maxHeartbeats 4000000 in
theorem cm_account (l : Launch) (hl : l.stackTraces = false) (G : ga_X) (L N : gc_L) (τ : gm_S) (f : Int32)  : gt_C l G yX1_account cX1_account 2 (some FieldType.int) ({ frames := 9, cells := 3, slots := 18, locals := 120 } : Room) [.ref (L 0 0), .int f] L N τ (ct_account τ N f) (some (.int (cd_account τ N f))) := by
  refine gt_start RX1 hl rfl (by decide) (Nat.le_of_ble_eq_true rfl) (fun Γ h1 h n0 n1 n e X Y hP hn hF hn1 hn01 hxt => ?_)
  subst e
  show ga Γ G h n 0 0 0 [(0, .ref (L 0 0)), (1, .int f)] []
  refine ga_iload_n X 1 dX1_account_0 rfl rfl ?_
  refine gp_callS X Y (cs_isFirm _ X.tr G f) wX1_37 ⟨rfl, rfl⟩ ⟨by decide, by decide⟩ ⟨(by first | decide | omega | (dsimp only; omega)), (by first | decide | omega | (dsimp only; omega))⟩ rfl (Nat.le_of_ble_eq_true rfl) dX1_account_1 ?_
  refine ga_callS X Y (cm_place _ X.tr G (0 ≤ f ∧ f ≤ 5) _ _) wX1_41 ⟨Nat.le_of_ble_eq_true rfl, Nat.le_of_ble_eq_true rfl⟩ ⟨(by first | decide | omega | (dsimp only; omega)), (by first | decide | omega | (dsimp only; omega))⟩ rfl (Nat.le_of_ble_eq_true rfl) dX1_account_4 (fun v9 h9 n9 hq _ => ?_) (fun E9 h9 n9 hq _ => ?_)
  rotate_left
  · obtain ⟨hc, rfl, hq2, hq3⟩ := hq
    exact ga_out X Y (fun x hx => (hxt x hx).elim) (by first | decide | omega | (dsimp only; omega)) (by first | decide | omega | (dsimp only; omega)) ⟨by unfold ct_account; rw [if_neg hc]; decide, by unfold ct_account; rw [if_neg hc]; rfl, Nat.le_trans hn1 hq3, by rw [hq2]; exact hF⟩
  obtain ⟨hp_1, rfl, hq2, hq3⟩ := hq
  rw [hq2, hq3]
  refine ga_widen (k2 := 1) (n2 := 6) (by first | decide | omega | (dsimp only; omega)) (by first | decide | omega | (dsimp only; omega)) ?_
  show ga Γ G _ _ _ _ 7 [(0, .ref (L 0 0)), (1, .int f)] ([])
  have rl_1 := cx_lt hp_1 (m := 6) (by decide) (by decide)
  refine ga_aload_n X 0 dX1_account_7 rfl rfl ?_
  refine ga_get X in_X1 (ci := 0) rfl 3 (by decide) q191 rfl hP.r0 rfl dX1_account_8 ?_
  refine ga_iload_n X 1 dX1_account_11 rfl rfl ?_
  refine ga_iald X (cx f) (cx_e hp_1) (by omega) (by decide) hP.r4 dX1_account_12 ?_
  exact ga_iret X Y dX1_account_13 (by first | decide | omega | (dsimp only; omega)) (by first | decide | omega | (dsimp only; omega)) ⟨by unfold ct_account; rw [if_pos hp_1], congrArg (fun z => some (Value.int z)) (show (τ 400 (cx f)) = cd_account τ N f from by unfold cd_account; exact (rfl).symm), hn1, hF⟩
def ct_hasFailed (τ : gm_S) (N : gc_L) (f : Int32) : Int32 := if 0 ≤ f ∧ f ≤ 5 then 0 else 1
def cd_hasFailed (τ : gm_S) (N : gc_L) (f : Int32) : Int32 := τ 600 (cx f)
set_option maxHeartbeats 4000000 in
theorem cm_hasFailed (l : Launch) (hl : l.stackTraces = false) (G : ga_X) (L N : gc_L) (τ : gm_S) (f : Int32)  : gt_C l G yX1_hasFailed cX1_hasFailed 2 (some FieldType.boolean) ({ frames := 9, cells := 3, slots := 18, locals := 120 } : Room) [.ref (L 0 0), .int f] L N τ (ct_hasFailed τ N f) (some (.int (cd_hasFailed τ N f))) := by
  refine gt_start RX1 hl rfl (by decide) (Nat.le_of_ble_eq_true rfl) (fun Γ h1 h n0 n1 n e X Y hP hn hF hn1 hn01 hxt => ?_)
  subst e
  show ga Γ G h n 0 0 0 [(0, .ref (L 0 0)), (1, .int f)] []
  refine ga_iload_n X 1 dX1_hasFailed_0 rfl rfl ?_
  refine gp_callS X Y (cs_isFirm _ X.tr G f) wX1_37 ⟨rfl, rfl⟩ ⟨by decide, by decide⟩ ⟨(by first | decide | omega | (dsimp only; omega)), (by first | decide | omega | (dsimp only; omega))⟩ rfl (Nat.le_of_ble_eq_true rfl) dX1_hasFailed_1 ?_
  refine ga_callS X Y (cm_place _ X.tr G (0 ≤ f ∧ f ≤ 5) _ _) wX1_41 ⟨Nat.le_of_ble_eq_true rfl, Nat.le_of_ble_eq_true rfl⟩ ⟨(by first | decide | omega | (dsimp only; omega)), (by first | decide | omega | (dsimp only; omega))⟩ rfl (Nat.le_of_ble_eq_true rfl) dX1_hasFailed_4 (fun v9 h9 n9 hq _ => ?_) (fun E9 h9 n9 hq _ => ?_)
  rotate_left
  · obtain ⟨hc, rfl, hq2, hq3⟩ := hq
    exact ga_out X Y (fun x hx => (hxt x hx).elim) (by first | decide | omega | (dsimp only; omega)) (by first | decide | omega | (dsimp only; omega)) ⟨by unfold ct_hasFailed; rw [if_neg hc]; decide, by unfold ct_hasFailed; rw [if_neg hc]; rfl, Nat.le_trans hn1 hq3, by rw [hq2]; exact hF⟩
  obtain ⟨hp_1, rfl, hq2, hq3⟩ := hq
  rw [hq2, hq3]
  refine ga_widen (k2 := 1) (n2 := 6) (by first | decide | omega | (dsimp only; omega)) (by first | decide | omega | (dsimp only; omega)) ?_
  show ga Γ G _ _ _ _ 7 [(0, .ref (L 0 0)), (1, .int f)] ([])
  have rl_1 := cx_lt hp_1 (m := 6) (by decide) (by decide)
  refine ga_aload_n X 0 dX1_hasFailed_7 rfl rfl ?_
  refine ga_get X in_X1 (ci := 0) rfl 5 (by decide) q193 rfl hP.r0 rfl dX1_hasFailed_8 ?_
  refine ga_iload_n X 1 dX1_hasFailed_11 rfl rfl ?_
  refine ga_zald X (cx f) (cx_e hp_1) (by omega) (by decide) hP.r6.1 dX1_hasFailed_12 ?_
  exact ga_zret X Y (by rcases hP.r6.2 (cx f) rl_1 with z | z <;> rw [z] <;> rfl) dX1_hasFailed_13 (by first | decide | omega | (dsimp only; omega)) (by first | decide | omega | (dsimp only; omega)) ⟨by unfold ct_hasFailed; rw [if_pos hp_1], congrArg (fun z => some (Value.int z)) (show (τ 600 (cx f)) = cd_hasFailed τ N f from by unfold cd_hasFailed; exact (rfl).symm), hn1, hF⟩
def ct_left (τ : gm_S) (N : gc_L) (k : Int32) : Int32 := if 0 ≤ k ∧ k ≤ ((nI (N 13 (N 16 0))) - 1) then 0 else 1
def cd_left (τ : gm_S) (N : gc_L) (k : Int32) : Int32 := τ 3305 (1024 * (N 16 0) + (cx k))
set_option maxHeartbeats 4000000 in
theorem cm_left (l : Launch) (hl : l.stackTraces = false) (G : ga_X) (L N : gc_L) (τ : gm_S) (k : Int32)  : gt_C l G yX1_left cX1_left 2 (some FieldType.int) ({ frames := 9, cells := 3, slots := 18, locals := 120 } : Room) [.ref (L 0 0), .int k] L N τ (ct_left τ N k) (some (.int (cd_left τ N k))) := by
  refine gt_start RX1 hl rfl (by decide) (Nat.le_of_ble_eq_true rfl) (fun Γ h1 h n0 n1 n e X Y hP hn hF hn1 hn01 hxt => ?_)
  subst e
  show ga Γ G h n 0 0 0 [(0, .ref (L 0 0)), (1, .int k)] []
  refine ga_iload_n X 1 dX1_left_0 rfl rfl ?_
  refine ga_iconst X (v := 0) dX1_left_1 (by decide) ?_
  refine ga_aload_n X 0 dX1_left_2 rfl rfl ?_
  refine ga_get X in_X1 (ci := 0) rfl 1 (by decide) q189 rfl hP.r0 rfl dX1_left_3 ?_
  refine ga_getN X in_X2 (ci := 1) rfl 3 (by decide) q150 rfl (hP.r36 (Nat.le_refl _)) rfl dX1_left_6 ?_
  refine ga_callF X Y (jm_size _ X.tr G (L 13 (N 16 0)) (gc_e G L N 13 (N 16 0)) (N 13 (N 16 0)) (τ 1300 (N 16 0)) _ _ (hP.r13 (Nat.le_refl _))) wX1_70 (ci := 11) rfl (hP.r13 (Nat.le_refl _)) ⟨Nat.le_of_ble_eq_true rfl, Nat.le_of_ble_eq_true rfl⟩ ⟨(by first | decide | omega | (dsimp only; omega)), (by first | decide | omega | (dsimp only; omega))⟩ rfl (Nat.le_of_ble_eq_true rfl) dX1_left_9 (fun v9 h9 n9 hq _ => ?_) (fun _ _ _ q _ => q.elim)
  obtain ⟨rfl, hq2, hq3⟩ := hq
  rw [hq2, hq3]
  show ga Γ G _ _ _ _ 14 [(0, .ref (L 0 0)), (1, .int k)] (.int (nI (N 13 (N 16 0))) :: .int 0 :: .int k :: [])
  refine ga_iconst X (v := 1) dX1_left_14 (by decide) ?_
  refine ga_isub X dX1_left_15 ?_
  refine gp_callS X Y (cs_isIn _ X.tr G k 0 ((nI (N 13 (N 16 0))) - 1)) wX1_46 ⟨rfl, rfl⟩ ⟨by decide, by decide⟩ ⟨(by first | decide | omega | (dsimp only; omega)), (by first | decide | omega | (dsimp only; omega))⟩ rfl (Nat.le_of_ble_eq_true rfl) dX1_left_16 ?_
  refine ga_callS X Y (cm_place _ X.tr G (0 ≤ k ∧ k ≤ ((nI (N 13 (N 16 0))) - 1)) _ _) wX1_41 ⟨Nat.le_of_ble_eq_true rfl, Nat.le_of_ble_eq_true rfl⟩ ⟨(by first | decide | omega | (dsimp only; omega)), (by first | decide | omega | (dsimp only; omega))⟩ rfl (Nat.le_of_ble_eq_true rfl) dX1_left_19 (fun v9 h9 n9 hq _ => ?_) (fun E9 h9 n9 hq _ => ?_)
  rotate_left
  · obtain ⟨hc, rfl, hq2, hq3⟩ := hq
    exact ga_out X Y (fun x hx => (hxt x hx).elim) (by first | decide | omega | (dsimp only; omega)) (by first | decide | omega | (dsimp only; omega)) ⟨by unfold ct_left; rw [if_neg hc]; decide, by unfold ct_left; rw [if_neg hc]; rfl, Nat.le_trans hn1 hq3, by rw [hq2]; exact hF⟩
  obtain ⟨hp_1, rfl, hq2, hq3⟩ := hq
  rw [hq2, hq3]
  refine ga_widen (k2 := 1) (n2 := 6) (by first | decide | omega | (dsimp only; omega)) (by first | decide | omega | (dsimp only; omega)) ?_
  show ga Γ G _ _ _ _ 22 [(0, .ref (L 0 0)), (1, .int k)] ([])
  have hb_1 : N 13 (N 16 0) < 2147483648 := Nat.lt_of_le_of_lt (hP.n13 _) (by decide)
  obtain ⟨ec_1, rl_1⟩ := cx_cnt hp_1 hb_1
  refine ga_aload_n X 0 dX1_left_22 rfl rfl ?_
  refine ga_get X in_X1 (ci := 0) rfl 1 (by decide) q189 rfl hP.r0 rfl dX1_left_23 ?_
  refine ga_getN X in_X2 (ci := 1) rfl 3 (by decide) q150 rfl (hP.r36 (Nat.le_refl _)) rfl dX1_left_26 ?_
  refine ga_iload_n X 1 dX1_left_29 rfl rfl ?_
  have hj_1 : cx k < N 13 (N 16 0) := (by omega)
  obtain ⟨f_1, hE_1, hk_1, hb_1, hf_1, he_1⟩ := hP.r23 (Nat.le_refl _) (by omega)
  refine ga_st (st' := .int (nI (cx k)) :: .ref (L 13 (N 16 0)) :: []) (by rw [← ec_1]) ?_
  refine ga_callF X Y (jm_get _ X.tr G (L 13 (N 16 0)) (gc_e G L N 13 (N 16 0)) (N 13 (N 16 0)) (N 23 (N 16 0)) (cx k) _ (τ 1300 (N 16 0)) f_1 _ _ (hP.r13 (Nat.le_refl _)) hE_1 hj_1 hk_1 (by omega) (hf_1 (cx k) hj_1)) wX1_91 (ci := 11) rfl (hP.r13 (Nat.le_refl _)) ⟨Nat.le_of_ble_eq_true rfl, Nat.le_of_ble_eq_true rfl⟩ ⟨(by first | decide | omega | (dsimp only; omega)), (by first | decide | omega | (dsimp only; omega))⟩ rfl (Nat.le_of_ble_eq_true rfl) dX1_left_30 (fun v9 h9 n9 hq _ => ?_) (fun _ _ _ q _ => q.elim)
  obtain ⟨rfl, hq2, hq3⟩ := hq
  rw [hq2, hq3]
  show ga Γ G _ _ _ _ 35 [(0, .ref (L 0 0)), (1, .int k)] (.ref (L 33 (1024 * (N 16 0) + (cx k))) :: [])
  refine ga_cast X (ci := 8) rfl q1135 (hP.r33 (Nat.le_refl _) (hP.o13 hj_1)) dX1_left_35 ?_
  refine ga_getN X in_X10 (ci := 8) rfl 5 (by decide) q1155 rfl (hP.r33 (Nat.le_refl _) (hP.o13 hj_1)) rfl dX1_left_38 ?_
  exact ga_iret X Y dX1_left_41 (by first | decide | omega | (dsimp only; omega)) (by first | decide | omega | (dsimp only; omega)) ⟨by unfold ct_left; rw [if_pos hp_1], congrArg (fun z => some (Value.int z)) (show (τ 3305 (1024 * (N 16 0) + (cx k))) = cd_left τ N k from by unfold cd_left; exact (rfl).symm), hn1, hF⟩
