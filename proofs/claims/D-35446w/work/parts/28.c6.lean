set_option maxRecDepth 100000
theorem cx_le {x : Int32} {k : Nat} (h : 0 ≤ x ∧ x ≤ nI k) (hne : ¬ x = nI k) (hk : k < 2147483648) : x = nI (cx x) ∧ cx x < k := by
  obtain ⟨j, hj, e⟩ := nI_of (Int32.not_lt.mpr h.1)
  have hc : cx x = j := by rw [e]; unfold cx; rw [nI_clamp hj]
  refine ⟨by rw [hc]; exact e, ?_⟩
  rw [hc]
  have h2 := h.2
  rw [e] at h2 hne
  have := (nI_leI hj hk).mp h2
  exact Nat.lt_of_le_of_ne this (fun z => hne (by rw [z]))
def cf_flow (f : Nat → Int32) (ln : Int32) : Int32 := if ln = 0 then f 0 - f 1 else if ln = 1 then f 1 - f 2 else f 0 - f 2
theorem cf_flow_c {f g : Nat → Int32} (h : ∀ z, z < 3 → f z = g z) (ln : Int32) : cf_flow f ln = cf_flow g ln := by
  unfold cf_flow
  rw [h 0 (by decide), h 1 (by decide), h 2 (by decide)]
set_option maxHeartbeats 4000000 in
theorem cs_flowOn (l : Launch) (hl : l.stackTraces = false) (G : ga_X) (ln : Int32) (a : Nat) (f : Nat → Int32) (h : ga_H) (n : Nat) (hA : h a = some (ga_I G 3 f)) : ga_C l G yX1_flowOn cX1_flowOn 2 (some FieldType.int) ({ frames := 0, cells := 0, slots := 0, locals := 0 } : Room) [.int ln, .ref a] h n (fun v' h' n' => v' = some (.int (cf_flow f ln)) ∧ h' = h ∧ n' = n) ga_no := by
  refine ga_start hl rfl (Nat.le_of_ble_eq_true rfl) (fun Γ e X Y hnm hxt => ?_)
  subst e
  have X : ga_E Γ G RX1 cX1_flowOn 2 := X
  show ga Γ G h n 0 0 0 [(0, .int ln), (1, .ref a)] []
  refine ga_iload_n X 0 dX1_flowOn_0 rfl rfl ?_
  refine ga_if_ne X (tgt := 14) dX1_flowOn_1 (by decide) (fun c_1 => ?_) (fun c_1 => ?_)
  · refine ga_iload_n X 0 dX1_flowOn_14 rfl rfl ?_
    refine ga_iconst X (v := 1) dX1_flowOn_15 (by decide) ?_
    refine ga_icmp_ne X (tgt := 29) dX1_flowOn_16 (by decide) (fun c_16 => ?_) (fun c_16 => ?_)
    · refine ga_aload_n X 1 dX1_flowOn_29 rfl rfl ?_
      refine ga_iconst X (v := 0) dX1_flowOn_30 (by decide) ?_
      refine ga_iald X 0 rfl (by decide) (by decide) hA dX1_flowOn_31 ?_
      refine ga_aload_n X 1 dX1_flowOn_32 rfl rfl ?_
      refine ga_iconst X (v := 2) dX1_flowOn_33 (by decide) ?_
      refine ga_iald X 2 rfl (by decide) (by decide) hA dX1_flowOn_34 ?_
      refine ga_isub X dX1_flowOn_35 ?_
      exact ga_iret X Y dX1_flowOn_36 (by first | decide | omega | (dsimp only; omega)) (by first | decide | omega | (dsimp only; omega)) ⟨(by unfold cf_flow; rw [if_neg c_1, if_neg c_16]), rfl, rfl⟩
    · refine ga_aload_n X 1 dX1_flowOn_19 rfl rfl ?_
      refine ga_iconst X (v := 1) dX1_flowOn_20 (by decide) ?_
      refine ga_iald X 1 rfl (by decide) (by decide) hA dX1_flowOn_21 ?_
      refine ga_aload_n X 1 dX1_flowOn_22 rfl rfl ?_
      refine ga_iconst X (v := 2) dX1_flowOn_23 (by decide) ?_
      refine ga_iald X 2 rfl (by decide) (by decide) hA dX1_flowOn_24 ?_
      refine ga_isub X dX1_flowOn_25 ?_
      refine ga_goto X (tgt := 36) dX1_flowOn_26 (by decide) ?_
      exact ga_iret X Y dX1_flowOn_36 (by first | decide | omega | (dsimp only; omega)) (by first | decide | omega | (dsimp only; omega)) ⟨(by unfold cf_flow; rw [if_neg c_1, if_pos c_16]), rfl, rfl⟩
  · refine ga_aload_n X 1 dX1_flowOn_4 rfl rfl ?_
    refine ga_iconst X (v := 0) dX1_flowOn_5 (by decide) ?_
    refine ga_iald X 0 rfl (by decide) (by decide) hA dX1_flowOn_6 ?_
    refine ga_aload_n X 1 dX1_flowOn_7 rfl rfl ?_
    refine ga_iconst X (v := 1) dX1_flowOn_8 (by decide) ?_
    refine ga_iald X 1 rfl (by decide) (by decide) hA dX1_flowOn_9 ?_
    refine ga_isub X dX1_flowOn_10 ?_
    refine ga_goto X (tgt := 36) dX1_flowOn_11 (by decide) ?_
    exact ga_iret X Y dX1_flowOn_36 (by first | decide | omega | (dsimp only; omega)) (by first | decide | omega | (dsimp only; omega)) ⟨(by unfold cf_flow; rw [if_pos c_1]), rfl, rfl⟩
set_option maxHeartbeats 2000000 in
theorem cm_closed (l : Launch) (hl : l.stackTraces = false) (G : ga_X) (L N : gc_L) (τ : gm_S) (dy : Int32)  : gth_C l G yX1_closed cX1_closed 2 (some (FieldType.object "GridMarket$Day")) ({ frames := 9, cells := 1, slots := 6, locals := 120 } : Room) [.ref (L 0 0), .int dy] L N τ (0 ≤ dy ∧ dy ≤ nI (N 16 0) - 1) "java/lang/IndexOutOfBoundsException" (some (.ref (L 36 (cx dy)))) := by
  refine gth_start RX1 hl rfl (by decide) (Nat.le_of_ble_eq_true rfl) (fun Γ h n0 n e X Y hP hn hxt => ?_)
  subst e
  show ga Γ G h n 0 0 0 [(0, .ref (L 0 0)), (1, .int dy)] []
  refine ga_iload_n X 1 dX1_closed_0 rfl rfl ?_
  refine ga_iconst X (v := 0) dX1_closed_1 (by decide) ?_
  refine ga_aload_n X 0 dX1_closed_2 rfl rfl ?_
  refine ga_get X in_X1 (ci := 0) rfl 0 (by decide) q188 rfl hP.r0 rfl dX1_closed_3 ?_
  refine ga_callF X Y (jm_size _ X.tr G (L 16 0) (gc_e G L N 16 0) (N 16 0) (τ 1600 0) _ _ hP.r16) wX1_70 (ci := 11) rfl hP.r16 ⟨Nat.le_of_ble_eq_true rfl, Nat.le_of_ble_eq_true rfl⟩ ⟨(by first | decide | omega | (dsimp only; omega)), (by first | decide | omega | (dsimp only; omega))⟩ rfl (Nat.le_of_ble_eq_true rfl) dX1_closed_6 (fun v9 h9 n9 hq _ => ?_) (fun _ _ _ q _ => q.elim)
  obtain ⟨rfl, hq2, hq3⟩ := hq
  rw [hq2, hq3]
  show ga Γ G _ _ _ _ 11 [(0, .ref (L 0 0)), (1, .int dy)] (.int (nI (N 16 0)) :: .int 0 :: .int dy :: [])
  refine ga_iconst X (v := 1) dX1_closed_11 (by decide) ?_
  refine ga_isub X dX1_closed_12 ?_
  refine gp_callS X Y (cs_isIn _ X.tr G dy 0 ((nI (N 16 0)) - 1)) wX1_46 ⟨rfl, rfl⟩ ⟨by decide, by decide⟩ ⟨(by first | decide | omega | (dsimp only; omega)), (by first | decide | omega | (dsimp only; omega))⟩ rfl (Nat.le_of_ble_eq_true rfl) dX1_closed_13 ?_
  refine ga_callS X Y (cm_place _ X.tr G (0 ≤ dy ∧ dy ≤ ((nI (N 16 0)) - 1)) _ _) wX1_41 ⟨Nat.le_of_ble_eq_true rfl, Nat.le_of_ble_eq_true rfl⟩ ⟨(by first | decide | omega | (dsimp only; omega)), (by first | decide | omega | (dsimp only; omega))⟩ rfl (Nat.le_of_ble_eq_true rfl) dX1_closed_16 (fun v9 h9 n9 hq _ => ?_) (fun E9 h9 n9 hq _ => ?_)
  rotate_left
  · obtain ⟨hc, rfl, hq2, hq3⟩ := hq
    exact ga_out X Y (fun x hx => (hxt x hx).elim) (by first | decide | omega | (dsimp only; omega)) (by first | decide | omega | (dsimp only; omega)) ⟨hc, rfl, hq2, hq3⟩
  obtain ⟨hp_1, rfl, hq2, hq3⟩ := hq
  rw [hq2, hq3]
  refine ga_widen (k2 := 1) (n2 := 6) (by first | decide | omega | (dsimp only; omega)) (by first | decide | omega | (dsimp only; omega)) ?_
  show ga Γ G _ _ _ _ 19 [(0, .ref (L 0 0)), (1, .int dy)] ([])
  have hb_1 : N 16 0 < 2147483648 := Nat.lt_of_le_of_lt hP.n16 (by decide)
  obtain ⟨ec_1, rl_1⟩ := cx_cnt hp_1 hb_1
  refine ga_aload_n X 0 dX1_closed_19 rfl rfl ?_
  refine ga_get X in_X1 (ci := 0) rfl 0 (by decide) q188 rfl hP.r0 rfl dX1_closed_20 ?_
  refine ga_iload_n X 1 dX1_closed_23 rfl rfl ?_
  have hj_1 : cx dy < N 16 0 := (by omega)
  obtain ⟨f_1, hE_1, hk_1, hb_1, hf_1, he_1⟩ := hP.r26  (by omega)
  refine ga_st (st' := .int (nI (cx dy)) :: .ref (L 16 0) :: []) (by rw [← ec_1]) ?_
  refine ga_callF X Y (jm_get _ X.tr G (L 16 0) (gc_e G L N 16 0) (N 16 0) (N 26 0) (cx dy) _ (τ 1600 0) f_1 _ _ hP.r16 hE_1 hj_1 hk_1 (by omega) (hf_1 (cx dy) hj_1)) wX1_91 (ci := 11) rfl hP.r16 ⟨Nat.le_of_ble_eq_true rfl, Nat.le_of_ble_eq_true rfl⟩ ⟨(by first | decide | omega | (dsimp only; omega)), (by first | decide | omega | (dsimp only; omega))⟩ rfl (Nat.le_of_ble_eq_true rfl) dX1_closed_24 (fun v9 h9 n9 hq _ => ?_) (fun _ _ _ q _ => q.elim)
  obtain ⟨rfl, hq2, hq3⟩ := hq
  rw [hq2, hq3]
  show ga Γ G _ _ _ _ 29 [(0, .ref (L 0 0)), (1, .int dy)] (.ref (L 36 (1024 * 0 + (cx dy))) :: [])
  have hz_1 : 1024 * 0 + (cx dy) = cx dy := by omega
  refine ga_st (st' := .ref (L 36 (cx dy)) :: []) (by rw [hz_1]) ?_
  refine ga_cast X (ci := 1) rfl q129 (hP.r36 (Nat.le_of_lt hj_1)) dX1_closed_29 ?_
  exact ga_aret X Y (Or.inl ⟨_, rfl⟩) (Or.inr ⟨_, rfl⟩) dX1_closed_32 (by first | decide | omega | (dsimp only; omega)) (by first | decide | omega | (dsimp only; omega)) ⟨hp_1, rfl, rfl, rfl⟩
set_option maxHeartbeats 2000000 in
theorem cm_cleared (l : Launch) (hl : l.stackTraces = false) (G : ga_X) (L N : gc_L) (τ : gm_S)  : gth_C l G yX1_cleared cX1_cleared 1 (some (FieldType.object "GridMarket$Result")) ({ frames := 9, cells := 1, slots := 6, locals := 120 } : Room) [.ref (L 0 0)] L N τ (¬ N 40 (N 16 0) = 0) "java/lang/IllegalStateException" (some (.ref (L 40 (N 16 0)))) := by
  refine gth_start RX1 hl rfl (by decide) (Nat.le_of_ble_eq_true rfl) (fun Γ h n0 n e X Y hP hn hxt => ?_)
  subst e
  show ga Γ G h n 0 0 0 [(0, .ref (L 0 0))] []
  refine ga_aload_n X 0 dX1_cleared_0 rfl rfl ?_
  refine ga_get X in_X1 (ci := 0) rfl 1 (by decide) q189 rfl hP.r0 rfl dX1_cleared_1 ?_
  refine ga_getN X in_X2 (ci := 1) rfl 6 (by decide) q155 rfl (hP.r36 (Nat.le_refl _)) rfl dX1_cleared_4 ?_
  have J15 : ∀ (v15 : Int32), v15 = (bI (¬ (N 40 (N 16 0) = 0))) → ga Γ G h n 0 0 15 [(0, .ref (L 0 0))] (.int v15 :: []) := by
    intro v15 ev15
    subst ev15
    refine ga_callS X Y (cm_allow _ X.tr G (¬ (N 40 (N 16 0) = 0)) _ _) wX1_54 ⟨Nat.le_of_ble_eq_true rfl, Nat.le_of_ble_eq_true rfl⟩ ⟨(by first | decide | omega | (dsimp only; omega)), (by first | decide | omega | (dsimp only; omega))⟩ rfl (Nat.le_of_ble_eq_true rfl) dX1_cleared_15 (fun v9 h9 n9 hq _ => ?_) (fun E9 h9 n9 hq _ => ?_)
    rotate_left
    · obtain ⟨hc, rfl, hq2, hq3⟩ := hq
      exact ga_out X Y (fun x hx => (hxt x hx).elim) (by first | decide | omega | (dsimp only; omega)) (by first | decide | omega | (dsimp only; omega)) ⟨hc, rfl, hq2, hq3⟩
    obtain ⟨hp_1, rfl, hq2, hq3⟩ := hq
    rw [hq2, hq3]
    refine ga_widen (k2 := 1) (n2 := 6) (by first | decide | omega | (dsimp only; omega)) (by first | decide | omega | (dsimp only; omega)) ?_
    show ga Γ G _ _ _ _ 18 [(0, .ref (L 0 0))] ([])
    refine ga_aload_n X 0 dX1_cleared_18 rfl rfl ?_
    refine ga_get X in_X1 (ci := 0) rfl 1 (by decide) q189 rfl hP.r0 rfl dX1_cleared_19 ?_
    refine ga_getN X in_X2 (ci := 1) rfl 6 (by decide) q155 rfl (hP.r36 (Nat.le_refl _)) rfl dX1_cleared_22 ?_
    refine ga_st (st' := .ref (L 40 (N 16 0)) :: []) (by rw [if_neg hp_1]) ?_
    exact ga_aret X Y (Or.inl ⟨_, rfl⟩) (Or.inr ⟨_, rfl⟩) dX1_cleared_25 (by first | decide | omega | (dsimp only; omega)) (by first | decide | omega | (dsimp only; omega)) ⟨hp_1, rfl, rfl, rfl⟩
  refine ga_ifnullI X (tgt := 14) dX1_cleared_7 (by decide) (fun c_7 => ?_) (fun c_7 => ?_)
  · refine ga_iconst X (v := 0) dX1_cleared_14 (by decide) ?_
    exact J15 _ ((bI_f (fun hh => hh c_7)).symm)
  · refine ga_iconst X (v := 1) dX1_cleared_10 (by decide) ?_
    refine ga_goto X (tgt := 15) dX1_cleared_11 (by decide) ?_
    exact J15 _ ((bI_t c_7).symm)
def ct_price (τ : gm_S) (N : gc_L) (z y : Int32) : Int32 := if (0 ≤ z ∧ z ≤ 2) ∧ (0 ≤ y ∧ y ≤ 3) then (if ¬ N 40 (N 16 0) = 0 then 0 else 3) else 1
def cd_price (τ : gm_S) (N : gc_L) (z y : Int32) : Int32 := τ 4400 (3 * (4 * (N 16 0) + (cx y)) + (cx z))
set_option maxHeartbeats 4000000 in
theorem cm_price (l : Launch) (hl : l.stackTraces = false) (G : ga_X) (L N : gc_L) (τ : gm_S) (z y : Int32)  : gt_C l G yX1_price cX1_price 3 (some FieldType.int) ({ frames := 10, cells := 3, slots := 18, locals := 140 } : Room) [.ref (L 0 0), .int z, .int y] L N τ (ct_price τ N z y) (some (.int (cd_price τ N z y))) := by
  refine gt_start RX1 hl rfl (by decide) (Nat.le_of_ble_eq_true rfl) (fun Γ h1 h n0 n1 n e X Y hP hn hF hn1 hn01 hxt => ?_)
  subst e
  show ga Γ G h n 0 0 0 [(0, .ref (L 0 0)), (1, .int z), (2, .int y)] []
  refine ga_iload_n X 1 dX1_price_0 rfl rfl ?_
  refine gp_callS X Y (cs_isZone _ X.tr G z) wX1_61 ⟨rfl, rfl⟩ ⟨by decide, by decide⟩ ⟨(by first | decide | omega | (dsimp only; omega)), (by first | decide | omega | (dsimp only; omega))⟩ rfl (Nat.le_of_ble_eq_true rfl) dX1_price_1 ?_
  have J19 : ∀ (v19 : Int32), v19 = (bI ((0 ≤ z ∧ z ≤ 2) ∧ (0 ≤ y ∧ y ≤ 3))) → ga Γ G h n 0 0 19 [(0, .ref (L 0 0)), (1, .int z), (2, .int y)] (.int v19 :: []) := by
    intro v19 ev19
    subst ev19
    refine ga_callS X Y (cm_place _ X.tr G ((0 ≤ z ∧ z ≤ 2) ∧ (0 ≤ y ∧ y ≤ 3)) _ _) wX1_41 ⟨Nat.le_of_ble_eq_true rfl, Nat.le_of_ble_eq_true rfl⟩ ⟨(by first | decide | omega | (dsimp only; omega)), (by first | decide | omega | (dsimp only; omega))⟩ rfl (Nat.le_of_ble_eq_true rfl) dX1_price_19 (fun v9 h9 n9 hq _ => ?_) (fun E9 h9 n9 hq _ => ?_)
    rotate_left
    · obtain ⟨hc, rfl, hq2, hq3⟩ := hq
      exact ga_out X Y (fun x hx => (hxt x hx).elim) (by first | decide | omega | (dsimp only; omega)) (by first | decide | omega | (dsimp only; omega)) ⟨by unfold ct_price; rw [if_neg hc]; decide, by unfold ct_price; rw [if_neg hc]; rfl, Nat.le_trans hn1 hq3, by rw [hq2]; exact hF⟩
    obtain ⟨hp_1, rfl, hq2, hq3⟩ := hq
    rw [hq2, hq3]
    refine ga_widen (k2 := 1) (n2 := 6) (by first | decide | omega | (dsimp only; omega)) (by first | decide | omega | (dsimp only; omega)) ?_
    show ga Γ G _ _ _ _ 22 [(0, .ref (L 0 0)), (1, .int z), (2, .int y)] ([])
    have rl_1 := cx_lt hp_1.1 (m := 3) (by decide) (by decide)
    have rl_2 := cx_lt hp_1.2 (m := 4) (by decide) (by decide)
    refine ga_aload_n X 0 dX1_price_22 rfl rfl ?_
    refine ga_callV X Y (cm_cleared _ X.tr G L N τ _ _ _ hP hn) wX1_192 (ci := 0) rfl hP.r0 ⟨Nat.le_of_ble_eq_true rfl, Nat.le_of_ble_eq_true rfl⟩ ⟨(by first | decide | omega | (dsimp only; omega)), (by first | decide | omega | (dsimp only; omega))⟩ rfl (Nat.le_of_ble_eq_true rfl) dX1_price_23 (fun v9 h9 n9 hq _ => ?_) (fun E9 h9 n9 hq _ => ?_)
    rotate_left
    · obtain ⟨hc, rfl, hq2, hq3⟩ := hq
      exact ga_out X Y (fun x hx => (hxt x hx).elim) (by first | decide | omega | (dsimp only; omega)) (by first | decide | omega | (dsimp only; omega)) ⟨by unfold ct_price; rw [if_pos hp_1, if_neg hc]; decide, by unfold ct_price; rw [if_pos hp_1, if_neg hc]; rfl, Nat.le_trans hn1 hq3, by rw [hq2]; exact hF⟩
    obtain ⟨hp_2, rfl, hq2, hq3⟩ := hq
    rw [hq2, hq3]
    refine ga_widen (k2 := 2) (n2 := 12) (by first | decide | omega | (dsimp only; omega)) (by first | decide | omega | (dsimp only; omega)) ?_
    show ga Γ G _ _ _ _ 26 [(0, .ref (L 0 0)), (1, .int z), (2, .int y)] (.ref (L 40 (N 16 0)) :: [])
    refine ga_getN X in_X8 (ci := 7) rfl 1 (by decide) q1014 rfl (hP.r40 (Nat.le_refl _) hp_2) rfl dX1_price_26 ?_
    refine ga_iload_n X 2 dX1_price_29 rfl rfl ?_
    obtain ⟨f_1, hf_1, hv_1⟩ := hP.r43 (Nat.le_refl _) hp_2
    refine ga_aald X (k := 6) (cx y) (cx_e hp_1.2) (by omega) (by decide) rfl rfl hf_1 dX1_price_30 (show va_rf (f_1 (cx y)) = .ref (L 44 (4 * (N 16 0) + (cx y))) by rw [hv_1 (cx y) (by omega)]; rfl) ?_
    refine ga_iload_n X 1 dX1_price_31 rfl rfl ?_
    obtain ⟨f_2, hf_2, hv_2⟩ := hP.r44 (Nat.le_refl _) hp_2 (by omega)
    refine ga_iald X (cx z) (cx_e hp_1.1) (by omega) (by decide) hf_2 dX1_price_32 ?_
    refine ga_st (st' := .int (τ 4400 (3 * (4 * (N 16 0) + (cx y)) + (cx z))) :: []) (by rw [hv_2 (cx z) (by omega)]) ?_
    exact ga_iret X Y dX1_price_33 (by first | decide | omega | (dsimp only; omega)) (by first | decide | omega | (dsimp only; omega)) ⟨by unfold ct_price; rw [if_pos hp_1, if_pos hp_2], congrArg (fun z => some (Value.int z)) (show (τ 4400 (3 * (4 * (N 16 0) + (cx y)) + (cx z))) = cd_price τ N z y from by unfold cd_price; exact (rfl).symm), hn1, hF⟩
  refine ga_ifb_eq X (tgt := 18) dX1_price_4 (by decide) (fun c_4 => ?_) (fun c_4 => ?_)
  · refine ga_iconst X (v := 0) dX1_price_18 (by decide) ?_
    exact J19 _ ((bI_f (fun hh => c_4 hh.1)).symm)
  · refine ga_iload_n X 2 dX1_price_7 rfl rfl ?_
    refine gp_callS X Y (cs_isHour _ X.tr G y) wX1_64 ⟨rfl, rfl⟩ ⟨by decide, by decide⟩ ⟨(by first | decide | omega | (dsimp only; omega)), (by first | decide | omega | (dsimp only; omega))⟩ rfl (Nat.le_of_ble_eq_true rfl) dX1_price_8 ?_
    refine ga_ifb_eq X (tgt := 18) dX1_price_11 (by decide) (fun c_11 => ?_) (fun c_11 => ?_)
    · refine ga_iconst X (v := 0) dX1_price_18 (by decide) ?_
      exact J19 _ ((bI_f (fun hh => c_11 hh.2)).symm)
    · refine ga_iconst X (v := 1) dX1_price_14 (by decide) ?_
      refine ga_goto X (tgt := 19) dX1_price_15 (by decide) ?_
      exact J19 _ ((bI_t ⟨c_4, c_11⟩).symm)
def ct_net (τ : gm_S) (N : gc_L) (z y : Int32) : Int32 := if (0 ≤ z ∧ z ≤ 2) ∧ (0 ≤ y ∧ y ≤ 3) then (if ¬ N 40 (N 16 0) = 0 then 0 else 3) else 1
def cd_net (τ : gm_S) (N : gc_L) (z y : Int32) : Int32 := τ 4200 (3 * (4 * (N 16 0) + (cx y)) + (cx z))
set_option maxHeartbeats 4000000 in
theorem cm_net (l : Launch) (hl : l.stackTraces = false) (G : ga_X) (L N : gc_L) (τ : gm_S) (z y : Int32)  : gt_C l G yX1_net cX1_net 3 (some FieldType.int) ({ frames := 10, cells := 3, slots := 18, locals := 140 } : Room) [.ref (L 0 0), .int z, .int y] L N τ (ct_net τ N z y) (some (.int (cd_net τ N z y))) := by
  refine gt_start RX1 hl rfl (by decide) (Nat.le_of_ble_eq_true rfl) (fun Γ h1 h n0 n1 n e X Y hP hn hF hn1 hn01 hxt => ?_)
  subst e
  show ga Γ G h n 0 0 0 [(0, .ref (L 0 0)), (1, .int z), (2, .int y)] []
  refine ga_iload_n X 1 dX1_net_0 rfl rfl ?_
  refine gp_callS X Y (cs_isZone _ X.tr G z) wX1_61 ⟨rfl, rfl⟩ ⟨by decide, by decide⟩ ⟨(by first | decide | omega | (dsimp only; omega)), (by first | decide | omega | (dsimp only; omega))⟩ rfl (Nat.le_of_ble_eq_true rfl) dX1_net_1 ?_
  have J19 : ∀ (v19 : Int32), v19 = (bI ((0 ≤ z ∧ z ≤ 2) ∧ (0 ≤ y ∧ y ≤ 3))) → ga Γ G h n 0 0 19 [(0, .ref (L 0 0)), (1, .int z), (2, .int y)] (.int v19 :: []) := by
    intro v19 ev19
    subst ev19
    refine ga_callS X Y (cm_place _ X.tr G ((0 ≤ z ∧ z ≤ 2) ∧ (0 ≤ y ∧ y ≤ 3)) _ _) wX1_41 ⟨Nat.le_of_ble_eq_true rfl, Nat.le_of_ble_eq_true rfl⟩ ⟨(by first | decide | omega | (dsimp only; omega)), (by first | decide | omega | (dsimp only; omega))⟩ rfl (Nat.le_of_ble_eq_true rfl) dX1_net_19 (fun v9 h9 n9 hq _ => ?_) (fun E9 h9 n9 hq _ => ?_)
    rotate_left
    · obtain ⟨hc, rfl, hq2, hq3⟩ := hq
      exact ga_out X Y (fun x hx => (hxt x hx).elim) (by first | decide | omega | (dsimp only; omega)) (by first | decide | omega | (dsimp only; omega)) ⟨by unfold ct_net; rw [if_neg hc]; decide, by unfold ct_net; rw [if_neg hc]; rfl, Nat.le_trans hn1 hq3, by rw [hq2]; exact hF⟩
    obtain ⟨hp_1, rfl, hq2, hq3⟩ := hq
    rw [hq2, hq3]
    refine ga_widen (k2 := 1) (n2 := 6) (by first | decide | omega | (dsimp only; omega)) (by first | decide | omega | (dsimp only; omega)) ?_
    show ga Γ G _ _ _ _ 22 [(0, .ref (L 0 0)), (1, .int z), (2, .int y)] ([])
    have rl_1 := cx_lt hp_1.1 (m := 3) (by decide) (by decide)
    have rl_2 := cx_lt hp_1.2 (m := 4) (by decide) (by decide)
    refine ga_aload_n X 0 dX1_net_22 rfl rfl ?_
    refine ga_callV X Y (cm_cleared _ X.tr G L N τ _ _ _ hP hn) wX1_192 (ci := 0) rfl hP.r0 ⟨Nat.le_of_ble_eq_true rfl, Nat.le_of_ble_eq_true rfl⟩ ⟨(by first | decide | omega | (dsimp only; omega)), (by first | decide | omega | (dsimp only; omega))⟩ rfl (Nat.le_of_ble_eq_true rfl) dX1_net_23 (fun v9 h9 n9 hq _ => ?_) (fun E9 h9 n9 hq _ => ?_)
    rotate_left
    · obtain ⟨hc, rfl, hq2, hq3⟩ := hq
      exact ga_out X Y (fun x hx => (hxt x hx).elim) (by first | decide | omega | (dsimp only; omega)) (by first | decide | omega | (dsimp only; omega)) ⟨by unfold ct_net; rw [if_pos hp_1, if_neg hc]; decide, by unfold ct_net; rw [if_pos hp_1, if_neg hc]; rfl, Nat.le_trans hn1 hq3, by rw [hq2]; exact hF⟩
    obtain ⟨hp_2, rfl, hq2, hq3⟩ := hq
    rw [hq2, hq3]
    refine ga_widen (k2 := 2) (n2 := 12) (by first | decide | omega | (dsimp only; omega)) (by first | decide | omega | (dsimp only; omega)) ?_
    show ga Γ G _ _ _ _ 26 [(0, .ref (L 0 0)), (1, .int z), (2, .int y)] (.ref (L 40 (N 16 0)) :: [])
    refine ga_getN X in_X8 (ci := 7) rfl 0 (by decide) q1012 rfl (hP.r40 (Nat.le_refl _) hp_2) rfl dX1_net_26 ?_
    refine ga_iload_n X 2 dX1_net_29 rfl rfl ?_
    obtain ⟨f_1, hf_1, hv_1⟩ := hP.r41 (Nat.le_refl _) hp_2
    refine ga_aald X (k := 6) (cx y) (cx_e hp_1.2) (by omega) (by decide) rfl rfl hf_1 dX1_net_30 (show va_rf (f_1 (cx y)) = .ref (L 42 (4 * (N 16 0) + (cx y))) by rw [hv_1 (cx y) (by omega)]; rfl) ?_
    refine ga_iload_n X 1 dX1_net_31 rfl rfl ?_
    obtain ⟨f_2, hf_2, hv_2⟩ := hP.r42 (Nat.le_refl _) hp_2 (by omega)
    refine ga_iald X (cx z) (cx_e hp_1.1) (by omega) (by decide) hf_2 dX1_net_32 ?_
    refine ga_st (st' := .int (τ 4200 (3 * (4 * (N 16 0) + (cx y)) + (cx z))) :: []) (by rw [hv_2 (cx z) (by omega)]) ?_
    exact ga_iret X Y dX1_net_33 (by first | decide | omega | (dsimp only; omega)) (by first | decide | omega | (dsimp only; omega)) ⟨by unfold ct_net; rw [if_pos hp_1, if_pos hp_2], congrArg (fun z => some (Value.int z)) (show (τ 4200 (3 * (4 * (N 16 0) + (cx y)) + (cx z))) = cd_net τ N z y from by unfold cd_net; exact (rfl).symm), hn1, hF⟩
  refine ga_ifb_eq X (tgt := 18) dX1_net_4 (by decide) (fun c_4 => ?_) (fun c_4 => ?_)
  · refine ga_iconst X (v := 0) dX1_net_18 (by decide) ?_
    exact J19 _ ((bI_f (fun hh => c_4 hh.1)).symm)
  · refine ga_iload_n X 2 dX1_net_7 rfl rfl ?_
    refine gp_callS X Y (cs_isHour _ X.tr G y) wX1_64 ⟨rfl, rfl⟩ ⟨by decide, by decide⟩ ⟨(by first | decide | omega | (dsimp only; omega)), (by first | decide | omega | (dsimp only; omega))⟩ rfl (Nat.le_of_ble_eq_true rfl) dX1_net_8 ?_
    refine ga_ifb_eq X (tgt := 18) dX1_net_11 (by decide) (fun c_11 => ?_) (fun c_11 => ?_)
    · refine ga_iconst X (v := 0) dX1_net_18 (by decide) ?_
      exact J19 _ ((bI_f (fun hh => c_11 hh.2)).symm)
    · refine ga_iconst X (v := 1) dX1_net_14 (by decide) ?_
      refine ga_goto X (tgt := 19) dX1_net_15 (by decide) ?_
      exact J19 _ ((bI_t ⟨c_4, c_11⟩).symm)
def ct_flow (τ : gm_S) (N : gc_L) (k y : Int32) : Int32 := if (0 ≤ k ∧ k ≤ 2) ∧ (0 ≤ y ∧ y ≤ 3) then (if ¬ N 40 (N 16 0) = 0 then 0 else 3) else 1
def cd_flow (τ : gm_S) (N : gc_L) (k y : Int32) : Int32 := cf_flow (fun z => τ 4200 (3 * (4 * (N 16 0) + (cx y)) + z)) k
set_option maxHeartbeats 4000000 in
theorem cm_flow (l : Launch) (hl : l.stackTraces = false) (G : ga_X) (L N : gc_L) (τ : gm_S) (k y : Int32)  : gt_C l G yX1_flow cX1_flow 3 (some FieldType.int) ({ frames := 10, cells := 3, slots := 18, locals := 140 } : Room) [.ref (L 0 0), .int k, .int y] L N τ (ct_flow τ N k y) (some (.int (cd_flow τ N k y))) := by
  refine gt_start RX1 hl rfl (by decide) (Nat.le_of_ble_eq_true rfl) (fun Γ h1 h n0 n1 n e X Y hP hn hF hn1 hn01 hxt => ?_)
  subst e
  show ga Γ G h n 0 0 0 [(0, .ref (L 0 0)), (1, .int k), (2, .int y)] []
  refine ga_iload_n X 1 dX1_flow_0 rfl rfl ?_
  refine ga_iconst X (v := 0) dX1_flow_1 (by decide) ?_
  refine ga_iconst X (v := 2) dX1_flow_2 (by decide) ?_
  refine gp_callS X Y (cs_isIn _ X.tr G k 0 2) wX1_46 ⟨rfl, rfl⟩ ⟨by decide, by decide⟩ ⟨(by first | decide | omega | (dsimp only; omega)), (by first | decide | omega | (dsimp only; omega))⟩ rfl (Nat.le_of_ble_eq_true rfl) dX1_flow_3 ?_
  have J21 : ∀ (v21 : Int32), v21 = (bI ((0 ≤ k ∧ k ≤ 2) ∧ (0 ≤ y ∧ y ≤ 3))) → ga Γ G h n 0 0 21 [(0, .ref (L 0 0)), (1, .int k), (2, .int y)] (.int v21 :: []) := by
    intro v21 ev21
    subst ev21
    refine ga_callS X Y (cm_place _ X.tr G ((0 ≤ k ∧ k ≤ 2) ∧ (0 ≤ y ∧ y ≤ 3)) _ _) wX1_41 ⟨Nat.le_of_ble_eq_true rfl, Nat.le_of_ble_eq_true rfl⟩ ⟨(by first | decide | omega | (dsimp only; omega)), (by first | decide | omega | (dsimp only; omega))⟩ rfl (Nat.le_of_ble_eq_true rfl) dX1_flow_21 (fun v9 h9 n9 hq _ => ?_) (fun E9 h9 n9 hq _ => ?_)
    rotate_left
    · obtain ⟨hc, rfl, hq2, hq3⟩ := hq
      exact ga_out X Y (fun x hx => (hxt x hx).elim) (by first | decide | omega | (dsimp only; omega)) (by first | decide | omega | (dsimp only; omega)) ⟨by unfold ct_flow; rw [if_neg hc]; decide, by unfold ct_flow; rw [if_neg hc]; rfl, Nat.le_trans hn1 hq3, by rw [hq2]; exact hF⟩
    obtain ⟨hp_1, rfl, hq2, hq3⟩ := hq
    rw [hq2, hq3]
    refine ga_widen (k2 := 1) (n2 := 6) (by first | decide | omega | (dsimp only; omega)) (by first | decide | omega | (dsimp only; omega)) ?_
    show ga Γ G _ _ _ _ 24 [(0, .ref (L 0 0)), (1, .int k), (2, .int y)] ([])
    have rl_2 := cx_lt hp_1.2 (m := 4) (by decide) (by decide)
    refine ga_iload_n X 1 dX1_flow_24 rfl rfl ?_
    refine ga_aload_n X 0 dX1_flow_25 rfl rfl ?_
    refine ga_callV X Y (cm_cleared _ X.tr G L N τ _ _ _ hP hn) wX1_192 (ci := 0) rfl hP.r0 ⟨Nat.le_of_ble_eq_true rfl, Nat.le_of_ble_eq_true rfl⟩ ⟨(by first | decide | omega | (dsimp only; omega)), (by first | decide | omega | (dsimp only; omega))⟩ rfl (Nat.le_of_ble_eq_true rfl) dX1_flow_26 (fun v9 h9 n9 hq _ => ?_) (fun E9 h9 n9 hq _ => ?_)
    rotate_left
    · obtain ⟨hc, rfl, hq2, hq3⟩ := hq
      exact ga_out X Y (fun x hx => (hxt x hx).elim) (by first | decide | omega | (dsimp only; omega)) (by first | decide | omega | (dsimp only; omega)) ⟨by unfold ct_flow; rw [if_pos hp_1, if_neg hc]; decide, by unfold ct_flow; rw [if_pos hp_1, if_neg hc]; rfl, Nat.le_trans hn1 hq3, by rw [hq2]; exact hF⟩
    obtain ⟨hp_2, rfl, hq2, hq3⟩ := hq
    rw [hq2, hq3]
    refine ga_widen (k2 := 2) (n2 := 12) (by first | decide | omega | (dsimp only; omega)) (by first | decide | omega | (dsimp only; omega)) ?_
    show ga Γ G _ _ _ _ 29 [(0, .ref (L 0 0)), (1, .int k), (2, .int y)] (.ref (L 40 (N 16 0)) :: .int k :: [])
    refine ga_getN X in_X8 (ci := 7) rfl 0 (by decide) q1012 rfl (hP.r40 (Nat.le_refl _) hp_2) rfl dX1_flow_29 ?_
    refine ga_iload_n X 2 dX1_flow_32 rfl rfl ?_
    obtain ⟨f_1, hf_1, hv_1⟩ := hP.r41 (Nat.le_refl _) hp_2
    refine ga_aald X (k := 6) (cx y) (cx_e hp_1.2) (by omega) (by decide) rfl rfl hf_1 dX1_flow_33 (show va_rf (f_1 (cx y)) = .ref (L 42 (4 * (N 16 0) + (cx y))) by rw [hv_1 (cx y) (by omega)]; rfl) ?_
    obtain ⟨f_2, hf_2, hv_2⟩ := hP.r42 (Nat.le_refl _) hp_2 (by omega)
    refine ga_callS X Y (cs_flowOn _ X.tr G k (L 42 (4 * (N 16 0) + (cx y))) f_2 _ _ hf_2) wX1_203 ⟨Nat.le_of_ble_eq_true rfl, Nat.le_of_ble_eq_true rfl⟩ ⟨(by first | decide | omega | (dsimp only; omega)), (by first | decide | omega | (dsimp only; omega))⟩ rfl (Nat.le_of_ble_eq_true rfl) dX1_flow_34 (fun v9 h9 n9 hq _ => ?_) (fun _ _ _ q _ => q.elim)
    obtain ⟨rfl, hq2, hq3⟩ := hq
    rw [hq2, hq3]
    refine ga_widen (k2 := 2) (n2 := 12) (by first | decide | omega | (dsimp only; omega)) (by first | decide | omega | (dsimp only; omega)) ?_
    show ga Γ G _ _ _ _ 37 [(0, .ref (L 0 0)), (1, .int k), (2, .int y)] (.int (cf_flow f_2 k) :: [])
    refine ga_st (st' := .int (cf_flow (fun z => τ 4200 (3 * (4 * (N 16 0) + (cx y)) + z)) k) :: []) (by rw [(cf_flow_c (g := (fun z => τ 4200 (3 * (4 * (N 16 0) + (cx y)) + z))) (fun z hz => hv_2 z hz) k)]) ?_
    exact ga_iret X Y dX1_flow_37 (by first | decide | omega | (dsimp only; omega)) (by first | decide | omega | (dsimp only; omega)) ⟨by unfold ct_flow; rw [if_pos hp_1, if_pos hp_2], congrArg (fun z => some (Value.int z)) (show (cf_flow (fun z => τ 4200 (3 * (4 * (N 16 0) + (cx y)) + z)) k) = cd_flow τ N k y from by unfold cd_flow; exact (rfl).symm), hn1, hF⟩
  refine ga_ifb_eq X (tgt := 20) dX1_flow_6 (by decide) (fun c_6 => ?_) (fun c_6 => ?_)
  · refine ga_iconst X (v := 0) dX1_flow_20 (by decide) ?_
    exact J21 _ ((bI_f (fun hh => c_6 hh.1)).symm)
  · refine ga_iload_n X 2 dX1_flow_9 rfl rfl ?_
    refine gp_callS X Y (cs_isHour _ X.tr G y) wX1_64 ⟨rfl, rfl⟩ ⟨by decide, by decide⟩ ⟨(by first | decide | omega | (dsimp only; omega)), (by first | decide | omega | (dsimp only; omega))⟩ rfl (Nat.le_of_ble_eq_true rfl) dX1_flow_10 ?_
    refine ga_ifb_eq X (tgt := 20) dX1_flow_13 (by decide) (fun c_13 => ?_) (fun c_13 => ?_)
    · refine ga_iconst X (v := 0) dX1_flow_20 (by decide) ?_
      exact J21 _ ((bI_f (fun hh => c_13 hh.2)).symm)
    · refine ga_iconst X (v := 1) dX1_flow_16 (by decide) ?_
      refine ga_goto X (tgt := 21) dX1_flow_17 (by decide) ?_
      exact J21 _ ((bI_t ⟨c_6, c_13⟩).symm)
def ct_taken (τ : gm_S) (N : gc_L) (k : Int32) : Int32 := if 0 ≤ k ∧ k ≤ ((nI (N 10 (N 16 0))) - 1) then (if ¬ N 40 (N 16 0) = 0 then 0 else 3) else 1
def cd_taken (τ : gm_S) (N : gc_L) (k : Int32) : Int32 := τ 3006 (1024 * (N 16 0) + (cx k))
set_option maxHeartbeats 4000000 in
theorem cm_taken (l : Launch) (hl : l.stackTraces = false) (G : ga_X) (L N : gc_L) (τ : gm_S) (k : Int32)  : gt_C l G yX1_taken cX1_taken 2 (some FieldType.int) ({ frames := 10, cells := 3, slots := 18, locals := 140 } : Room) [.ref (L 0 0), .int k] L N τ (ct_taken τ N k) (some (.int (cd_taken τ N k))) := by
  refine gt_start RX1 hl rfl (by decide) (Nat.le_of_ble_eq_true rfl) (fun Γ h1 h n0 n1 n e X Y hP hn hF hn1 hn01 hxt => ?_)
  subst e
  show ga Γ G h n 0 0 0 [(0, .ref (L 0 0)), (1, .int k)] []
  refine ga_iload_n X 1 dX1_taken_0 rfl rfl ?_
  refine ga_iconst X (v := 0) dX1_taken_1 (by decide) ?_
  refine ga_aload_n X 0 dX1_taken_2 rfl rfl ?_
  refine ga_get X in_X1 (ci := 0) rfl 1 (by decide) q189 rfl hP.r0 rfl dX1_taken_3 ?_
  refine ga_getN X in_X2 (ci := 1) rfl 0 (by decide) q144 rfl (hP.r36 (Nat.le_refl _)) rfl dX1_taken_6 ?_
  refine ga_callF X Y (jm_size _ X.tr G (L 10 (N 16 0)) (gc_e G L N 10 (N 16 0)) (N 10 (N 16 0)) (τ 1000 (N 16 0)) _ _ (hP.r10 (Nat.le_refl _))) wX1_70 (ci := 11) rfl (hP.r10 (Nat.le_refl _)) ⟨Nat.le_of_ble_eq_true rfl, Nat.le_of_ble_eq_true rfl⟩ ⟨(by first | decide | omega | (dsimp only; omega)), (by first | decide | omega | (dsimp only; omega))⟩ rfl (Nat.le_of_ble_eq_true rfl) dX1_taken_9 (fun v9 h9 n9 hq _ => ?_) (fun _ _ _ q _ => q.elim)
  obtain ⟨rfl, hq2, hq3⟩ := hq
  rw [hq2, hq3]
  show ga Γ G _ _ _ _ 14 [(0, .ref (L 0 0)), (1, .int k)] (.int (nI (N 10 (N 16 0))) :: .int 0 :: .int k :: [])
  refine ga_iconst X (v := 1) dX1_taken_14 (by decide) ?_
  refine ga_isub X dX1_taken_15 ?_
  refine gp_callS X Y (cs_isIn _ X.tr G k 0 ((nI (N 10 (N 16 0))) - 1)) wX1_46 ⟨rfl, rfl⟩ ⟨by decide, by decide⟩ ⟨(by first | decide | omega | (dsimp only; omega)), (by first | decide | omega | (dsimp only; omega))⟩ rfl (Nat.le_of_ble_eq_true rfl) dX1_taken_16 ?_
  refine ga_callS X Y (cm_place _ X.tr G (0 ≤ k ∧ k ≤ ((nI (N 10 (N 16 0))) - 1)) _ _) wX1_41 ⟨Nat.le_of_ble_eq_true rfl, Nat.le_of_ble_eq_true rfl⟩ ⟨(by first | decide | omega | (dsimp only; omega)), (by first | decide | omega | (dsimp only; omega))⟩ rfl (Nat.le_of_ble_eq_true rfl) dX1_taken_19 (fun v9 h9 n9 hq _ => ?_) (fun E9 h9 n9 hq _ => ?_)
  rotate_left
  · obtain ⟨hc, rfl, hq2, hq3⟩ := hq
    exact ga_out X Y (fun x hx => (hxt x hx).elim) (by first | decide | omega | (dsimp only; omega)) (by first | decide | omega | (dsimp only; omega)) ⟨by unfold ct_taken; rw [if_neg hc]; decide, by unfold ct_taken; rw [if_neg hc]; rfl, Nat.le_trans hn1 hq3, by rw [hq2]; exact hF⟩
  obtain ⟨hp_1, rfl, hq2, hq3⟩ := hq
  rw [hq2, hq3]
  refine ga_widen (k2 := 1) (n2 := 6) (by first | decide | omega | (dsimp only; omega)) (by first | decide | omega | (dsimp only; omega)) ?_
  show ga Γ G _ _ _ _ 22 [(0, .ref (L 0 0)), (1, .int k)] ([])
  have hb_1 : N 10 (N 16 0) < 2147483648 := Nat.lt_of_le_of_lt (hP.n10 _) (by decide)
  obtain ⟨ec_1, rl_1⟩ := cx_cnt hp_1 hb_1
  refine ga_aload_n X 0 dX1_taken_22 rfl rfl ?_
  refine ga_callV X Y (cm_cleared _ X.tr G L N τ _ _ _ hP hn) wX1_192 (ci := 0) rfl hP.r0 ⟨Nat.le_of_ble_eq_true rfl, Nat.le_of_ble_eq_true rfl⟩ ⟨(by first | decide | omega | (dsimp only; omega)), (by first | decide | omega | (dsimp only; omega))⟩ rfl (Nat.le_of_ble_eq_true rfl) dX1_taken_23 (fun v9 h9 n9 hq _ => ?_) (fun E9 h9 n9 hq _ => ?_)
  rotate_left
  · obtain ⟨hc, rfl, hq2, hq3⟩ := hq
    exact ga_out X Y (fun x hx => (hxt x hx).elim) (by first | decide | omega | (dsimp only; omega)) (by first | decide | omega | (dsimp only; omega)) ⟨by unfold ct_taken; rw [if_pos hp_1, if_neg hc]; decide, by unfold ct_taken; rw [if_pos hp_1, if_neg hc]; rfl, Nat.le_trans hn1 hq3, by rw [hq2]; exact hF⟩
  obtain ⟨hp_2, rfl, hq2, hq3⟩ := hq
  rw [hq2, hq3]
  refine ga_widen (k2 := 2) (n2 := 12) (by first | decide | omega | (dsimp only; omega)) (by first | decide | omega | (dsimp only; omega)) ?_
  show ga Γ G _ _ _ _ 26 [(0, .ref (L 0 0)), (1, .int k)] (.ref (L 40 (N 16 0)) :: [])
  refine ga_pop X dX1_taken_26 rfl ?_
  refine ga_aload_n X 0 dX1_taken_27 rfl rfl ?_
  refine ga_get X in_X1 (ci := 0) rfl 1 (by decide) q189 rfl hP.r0 rfl dX1_taken_28 ?_
  refine ga_getN X in_X2 (ci := 1) rfl 0 (by decide) q144 rfl (hP.r36 (Nat.le_refl _)) rfl dX1_taken_31 ?_
  refine ga_iload_n X 1 dX1_taken_34 rfl rfl ?_
  have hj_1 : cx k < N 10 (N 16 0) := (by omega)
  obtain ⟨f_1, hE_1, hk_1, hb_1, hf_1, he_1⟩ := hP.r20 (Nat.le_refl _) (by omega)
  refine ga_st (st' := .int (nI (cx k)) :: .ref (L 10 (N 16 0)) :: []) (by rw [← ec_1]) ?_
  refine ga_callF X Y (jm_get _ X.tr G (L 10 (N 16 0)) (gc_e G L N 10 (N 16 0)) (N 10 (N 16 0)) (N 20 (N 16 0)) (cx k) _ (τ 1000 (N 16 0)) f_1 _ _ (hP.r10 (Nat.le_refl _)) hE_1 hj_1 hk_1 (by omega) (hf_1 (cx k) hj_1)) wX1_91 (ci := 11) rfl (hP.r10 (Nat.le_refl _)) ⟨Nat.le_of_ble_eq_true rfl, Nat.le_of_ble_eq_true rfl⟩ ⟨(by first | decide | omega | (dsimp only; omega)), (by first | decide | omega | (dsimp only; omega))⟩ rfl (Nat.le_of_ble_eq_true rfl) dX1_taken_35 (fun v9 h9 n9 hq _ => ?_) (fun _ _ _ q _ => q.elim)
  obtain ⟨rfl, hq2, hq3⟩ := hq
  rw [hq2, hq3]
  show ga Γ G _ _ _ _ 40 [(0, .ref (L 0 0)), (1, .int k)] (.ref (L 30 (1024 * (N 16 0) + (cx k))) :: [])
  refine ga_cast X (ci := 3) rfl q402 (hP.r30 (Nat.le_refl _) hj_1) dX1_taken_40 ?_
  refine ga_getN X in_X4 (ci := 3) rfl 6 (by decide) q428 rfl (hP.r30 (Nat.le_refl _) hj_1) rfl dX1_taken_43 ?_
  exact ga_iret X Y dX1_taken_46 (by first | decide | omega | (dsimp only; omega)) (by first | decide | omega | (dsimp only; omega)) ⟨by unfold ct_taken; rw [if_pos hp_1, if_pos hp_2], congrArg (fun z => some (Value.int z)) (show (τ 3006 (1024 * (N 16 0) + (cx k))) = cd_taken τ N k from by unfold cd_taken; exact (rfl).symm), hn1, hF⟩
def ct_given (τ : gm_S) (N : gc_L) (k : Int32) : Int32 := if 0 ≤ k ∧ k ≤ ((nI (N 12 (N 16 0))) - 1) then (if ¬ N 40 (N 16 0) = 0 then 0 else 3) else 1
def cd_given (τ : gm_S) (N : gc_L) (k : Int32) : Int32 := τ 3205 (1024 * (N 16 0) + (cx k))
set_option maxHeartbeats 4000000 in
theorem cm_given (l : Launch) (hl : l.stackTraces = false) (G : ga_X) (L N : gc_L) (τ : gm_S) (k : Int32)  : gt_C l G yX1_given cX1_given 2 (some FieldType.int) ({ frames := 10, cells := 3, slots := 18, locals := 140 } : Room) [.ref (L 0 0), .int k] L N τ (ct_given τ N k) (some (.int (cd_given τ N k))) := by
  refine gt_start RX1 hl rfl (by decide) (Nat.le_of_ble_eq_true rfl) (fun Γ h1 h n0 n1 n e X Y hP hn hF hn1 hn01 hxt => ?_)
  subst e
  show ga Γ G h n 0 0 0 [(0, .ref (L 0 0)), (1, .int k)] []
  refine ga_iload_n X 1 dX1_given_0 rfl rfl ?_
  refine ga_iconst X (v := 0) dX1_given_1 (by decide) ?_
  refine ga_aload_n X 0 dX1_given_2 rfl rfl ?_
  refine ga_get X in_X1 (ci := 0) rfl 1 (by decide) q189 rfl hP.r0 rfl dX1_given_3 ?_
  refine ga_getN X in_X2 (ci := 1) rfl 2 (by decide) q148 rfl (hP.r36 (Nat.le_refl _)) rfl dX1_given_6 ?_
  refine ga_callF X Y (jm_size _ X.tr G (L 12 (N 16 0)) (gc_e G L N 12 (N 16 0)) (N 12 (N 16 0)) (τ 1200 (N 16 0)) _ _ (hP.r12 (Nat.le_refl _))) wX1_70 (ci := 11) rfl (hP.r12 (Nat.le_refl _)) ⟨Nat.le_of_ble_eq_true rfl, Nat.le_of_ble_eq_true rfl⟩ ⟨(by first | decide | omega | (dsimp only; omega)), (by first | decide | omega | (dsimp only; omega))⟩ rfl (Nat.le_of_ble_eq_true rfl) dX1_given_9 (fun v9 h9 n9 hq _ => ?_) (fun _ _ _ q _ => q.elim)
  obtain ⟨rfl, hq2, hq3⟩ := hq
  rw [hq2, hq3]
  show ga Γ G _ _ _ _ 14 [(0, .ref (L 0 0)), (1, .int k)] (.int (nI (N 12 (N 16 0))) :: .int 0 :: .int k :: [])
  refine ga_iconst X (v := 1) dX1_given_14 (by decide) ?_
  refine ga_isub X dX1_given_15 ?_
  refine gp_callS X Y (cs_isIn _ X.tr G k 0 ((nI (N 12 (N 16 0))) - 1)) wX1_46 ⟨rfl, rfl⟩ ⟨by decide, by decide⟩ ⟨(by first | decide | omega | (dsimp only; omega)), (by first | decide | omega | (dsimp only; omega))⟩ rfl (Nat.le_of_ble_eq_true rfl) dX1_given_16 ?_
  refine ga_callS X Y (cm_place _ X.tr G (0 ≤ k ∧ k ≤ ((nI (N 12 (N 16 0))) - 1)) _ _) wX1_41 ⟨Nat.le_of_ble_eq_true rfl, Nat.le_of_ble_eq_true rfl⟩ ⟨(by first | decide | omega | (dsimp only; omega)), (by first | decide | omega | (dsimp only; omega))⟩ rfl (Nat.le_of_ble_eq_true rfl) dX1_given_19 (fun v9 h9 n9 hq _ => ?_) (fun E9 h9 n9 hq _ => ?_)
  rotate_left
  · obtain ⟨hc, rfl, hq2, hq3⟩ := hq
    exact ga_out X Y (fun x hx => (hxt x hx).elim) (by first | decide | omega | (dsimp only; omega)) (by first | decide | omega | (dsimp only; omega)) ⟨by unfold ct_given; rw [if_neg hc]; decide, by unfold ct_given; rw [if_neg hc]; rfl, Nat.le_trans hn1 hq3, by rw [hq2]; exact hF⟩
  obtain ⟨hp_1, rfl, hq2, hq3⟩ := hq
  rw [hq2, hq3]
  refine ga_widen (k2 := 1) (n2 := 6) (by first | decide | omega | (dsimp only; omega)) (by first | decide | omega | (dsimp only; omega)) ?_
  show ga Γ G _ _ _ _ 22 [(0, .ref (L 0 0)), (1, .int k)] ([])
  have hb_1 : N 12 (N 16 0) < 2147483648 := Nat.lt_of_le_of_lt (hP.n12 _) (by decide)
  obtain ⟨ec_1, rl_1⟩ := cx_cnt hp_1 hb_1
  refine ga_aload_n X 0 dX1_given_22 rfl rfl ?_
  refine ga_callV X Y (cm_cleared _ X.tr G L N τ _ _ _ hP hn) wX1_192 (ci := 0) rfl hP.r0 ⟨Nat.le_of_ble_eq_true rfl, Nat.le_of_ble_eq_true rfl⟩ ⟨(by first | decide | omega | (dsimp only; omega)), (by first | decide | omega | (dsimp only; omega))⟩ rfl (Nat.le_of_ble_eq_true rfl) dX1_given_23 (fun v9 h9 n9 hq _ => ?_) (fun E9 h9 n9 hq _ => ?_)
  rotate_left
  · obtain ⟨hc, rfl, hq2, hq3⟩ := hq
    exact ga_out X Y (fun x hx => (hxt x hx).elim) (by first | decide | omega | (dsimp only; omega)) (by first | decide | omega | (dsimp only; omega)) ⟨by unfold ct_given; rw [if_pos hp_1, if_neg hc]; decide, by unfold ct_given; rw [if_pos hp_1, if_neg hc]; rfl, Nat.le_trans hn1 hq3, by rw [hq2]; exact hF⟩
  obtain ⟨hp_2, rfl, hq2, hq3⟩ := hq
  rw [hq2, hq3]
  refine ga_widen (k2 := 2) (n2 := 12) (by first | decide | omega | (dsimp only; omega)) (by first | decide | omega | (dsimp only; omega)) ?_
  show ga Γ G _ _ _ _ 26 [(0, .ref (L 0 0)), (1, .int k)] (.ref (L 40 (N 16 0)) :: [])
  refine ga_pop X dX1_given_26 rfl ?_
  refine ga_aload_n X 0 dX1_given_27 rfl rfl ?_
  refine ga_get X in_X1 (ci := 0) rfl 1 (by decide) q189 rfl hP.r0 rfl dX1_given_28 ?_
  refine ga_getN X in_X2 (ci := 1) rfl 2 (by decide) q148 rfl (hP.r36 (Nat.le_refl _)) rfl dX1_given_31 ?_
  refine ga_iload_n X 1 dX1_given_34 rfl rfl ?_
  have hj_1 : cx k < N 12 (N 16 0) := (by omega)
  obtain ⟨f_1, hE_1, hk_1, hb_1, hf_1, he_1⟩ := hP.r22 (Nat.le_refl _) (by omega)
  refine ga_st (st' := .int (nI (cx k)) :: .ref (L 12 (N 16 0)) :: []) (by rw [← ec_1]) ?_
  refine ga_callF X Y (jm_get _ X.tr G (L 12 (N 16 0)) (gc_e G L N 12 (N 16 0)) (N 12 (N 16 0)) (N 22 (N 16 0)) (cx k) _ (τ 1200 (N 16 0)) f_1 _ _ (hP.r12 (Nat.le_refl _)) hE_1 hj_1 hk_1 (by omega) (hf_1 (cx k) hj_1)) wX1_91 (ci := 11) rfl (hP.r12 (Nat.le_refl _)) ⟨Nat.le_of_ble_eq_true rfl, Nat.le_of_ble_eq_true rfl⟩ ⟨(by first | decide | omega | (dsimp only; omega)), (by first | decide | omega | (dsimp only; omega))⟩ rfl (Nat.le_of_ble_eq_true rfl) dX1_given_35 (fun v9 h9 n9 hq _ => ?_) (fun _ _ _ q _ => q.elim)
  obtain ⟨rfl, hq2, hq3⟩ := hq
  rw [hq2, hq3]
  show ga Γ G _ _ _ _ 40 [(0, .ref (L 0 0)), (1, .int k)] (.ref (L 32 (1024 * (N 16 0) + (cx k))) :: [])
  refine ga_cast X (ci := 5) rfl q602 (hP.r32 (Nat.le_refl _) hj_1) dX1_given_40 ?_
  refine ga_getN X in_X6 (ci := 5) rfl 5 (by decide) q618 rfl (hP.r32 (Nat.le_refl _) hj_1) rfl dX1_given_43 ?_
  exact ga_iret X Y dX1_given_46 (by first | decide | omega | (dsimp only; omega)) (by first | decide | omega | (dsimp only; omega)) ⟨by unfold ct_given; rw [if_pos hp_1, if_pos hp_2], congrArg (fun z => some (Value.int z)) (show (τ 3205 (1024 * (N 16 0) + (cx k))) = cd_given τ N k from by unfold cd_given; exact (rfl).symm), hn1, hF⟩
def ct_isTaken (τ : gm_S) (N : gc_L) (k : Int32) : Int32 := if 0 ≤ k ∧ k ≤ ((nI (N 11 (N 16 0))) - 1) then (if ¬ N 40 (N 16 0) = 0 then 0 else 3) else 1
def cd_isTaken (τ : gm_S) (N : gc_L) (k : Int32) : Int32 := τ 3108 (1024 * (N 16 0) + (cx k))
set_option maxHeartbeats 4000000 in
theorem cm_isTaken (l : Launch) (hl : l.stackTraces = false) (G : ga_X) (L N : gc_L) (τ : gm_S) (k : Int32)  : gt_C l G yX1_isTaken cX1_isTaken 2 (some FieldType.boolean) ({ frames := 10, cells := 3, slots := 18, locals := 140 } : Room) [.ref (L 0 0), .int k] L N τ (ct_isTaken τ N k) (some (.int (cd_isTaken τ N k))) := by
  refine gt_start RX1 hl rfl (by decide) (Nat.le_of_ble_eq_true rfl) (fun Γ h1 h n0 n1 n e X Y hP hn hF hn1 hn01 hxt => ?_)
  subst e
  show ga Γ G h n 0 0 0 [(0, .ref (L 0 0)), (1, .int k)] []
  refine ga_iload_n X 1 dX1_isTaken_0 rfl rfl ?_
  refine ga_iconst X (v := 0) dX1_isTaken_1 (by decide) ?_
  refine ga_aload_n X 0 dX1_isTaken_2 rfl rfl ?_
  refine ga_get X in_X1 (ci := 0) rfl 1 (by decide) q189 rfl hP.r0 rfl dX1_isTaken_3 ?_
  refine ga_getN X in_X2 (ci := 1) rfl 1 (by decide) q146 rfl (hP.r36 (Nat.le_refl _)) rfl dX1_isTaken_6 ?_
  refine ga_callF X Y (jm_size _ X.tr G (L 11 (N 16 0)) (gc_e G L N 11 (N 16 0)) (N 11 (N 16 0)) (τ 1100 (N 16 0)) _ _ (hP.r11 (Nat.le_refl _))) wX1_70 (ci := 11) rfl (hP.r11 (Nat.le_refl _)) ⟨Nat.le_of_ble_eq_true rfl, Nat.le_of_ble_eq_true rfl⟩ ⟨(by first | decide | omega | (dsimp only; omega)), (by first | decide | omega | (dsimp only; omega))⟩ rfl (Nat.le_of_ble_eq_true rfl) dX1_isTaken_9 (fun v9 h9 n9 hq _ => ?_) (fun _ _ _ q _ => q.elim)
  obtain ⟨rfl, hq2, hq3⟩ := hq
  rw [hq2, hq3]
  show ga Γ G _ _ _ _ 14 [(0, .ref (L 0 0)), (1, .int k)] (.int (nI (N 11 (N 16 0))) :: .int 0 :: .int k :: [])
  refine ga_iconst X (v := 1) dX1_isTaken_14 (by decide) ?_
  refine ga_isub X dX1_isTaken_15 ?_
  refine gp_callS X Y (cs_isIn _ X.tr G k 0 ((nI (N 11 (N 16 0))) - 1)) wX1_46 ⟨rfl, rfl⟩ ⟨by decide, by decide⟩ ⟨(by first | decide | omega | (dsimp only; omega)), (by first | decide | omega | (dsimp only; omega))⟩ rfl (Nat.le_of_ble_eq_true rfl) dX1_isTaken_16 ?_
  refine ga_callS X Y (cm_place _ X.tr G (0 ≤ k ∧ k ≤ ((nI (N 11 (N 16 0))) - 1)) _ _) wX1_41 ⟨Nat.le_of_ble_eq_true rfl, Nat.le_of_ble_eq_true rfl⟩ ⟨(by first | decide | omega | (dsimp only; omega)), (by first | decide | omega | (dsimp only; omega))⟩ rfl (Nat.le_of_ble_eq_true rfl) dX1_isTaken_19 (fun v9 h9 n9 hq _ => ?_) (fun E9 h9 n9 hq _ => ?_)
  rotate_left
  · obtain ⟨hc, rfl, hq2, hq3⟩ := hq
    exact ga_out X Y (fun x hx => (hxt x hx).elim) (by first | decide | omega | (dsimp only; omega)) (by first | decide | omega | (dsimp only; omega)) ⟨by unfold ct_isTaken; rw [if_neg hc]; decide, by unfold ct_isTaken; rw [if_neg hc]; rfl, Nat.le_trans hn1 hq3, by rw [hq2]; exact hF⟩
  obtain ⟨hp_1, rfl, hq2, hq3⟩ := hq
  rw [hq2, hq3]
  refine ga_widen (k2 := 1) (n2 := 6) (by first | decide | omega | (dsimp only; omega)) (by first | decide | omega | (dsimp only; omega)) ?_
  show ga Γ G _ _ _ _ 22 [(0, .ref (L 0 0)), (1, .int k)] ([])
  have hb_1 : N 11 (N 16 0) < 2147483648 := Nat.lt_of_le_of_lt (hP.n11 _) (by decide)
  obtain ⟨ec_1, rl_1⟩ := cx_cnt hp_1 hb_1
  refine ga_aload_n X 0 dX1_isTaken_22 rfl rfl ?_
  refine ga_callV X Y (cm_cleared _ X.tr G L N τ _ _ _ hP hn) wX1_192 (ci := 0) rfl hP.r0 ⟨Nat.le_of_ble_eq_true rfl, Nat.le_of_ble_eq_true rfl⟩ ⟨(by first | decide | omega | (dsimp only; omega)), (by first | decide | omega | (dsimp only; omega))⟩ rfl (Nat.le_of_ble_eq_true rfl) dX1_isTaken_23 (fun v9 h9 n9 hq _ => ?_) (fun E9 h9 n9 hq _ => ?_)
  rotate_left
  · obtain ⟨hc, rfl, hq2, hq3⟩ := hq
    exact ga_out X Y (fun x hx => (hxt x hx).elim) (by first | decide | omega | (dsimp only; omega)) (by first | decide | omega | (dsimp only; omega)) ⟨by unfold ct_isTaken; rw [if_pos hp_1, if_neg hc]; decide, by unfold ct_isTaken; rw [if_pos hp_1, if_neg hc]; rfl, Nat.le_trans hn1 hq3, by rw [hq2]; exact hF⟩
  obtain ⟨hp_2, rfl, hq2, hq3⟩ := hq
  rw [hq2, hq3]
  refine ga_widen (k2 := 2) (n2 := 12) (by first | decide | omega | (dsimp only; omega)) (by first | decide | omega | (dsimp only; omega)) ?_
  show ga Γ G _ _ _ _ 26 [(0, .ref (L 0 0)), (1, .int k)] (.ref (L 40 (N 16 0)) :: [])
  refine ga_pop X dX1_isTaken_26 rfl ?_
  refine ga_aload_n X 0 dX1_isTaken_27 rfl rfl ?_
  refine ga_get X in_X1 (ci := 0) rfl 1 (by decide) q189 rfl hP.r0 rfl dX1_isTaken_28 ?_
  refine ga_getN X in_X2 (ci := 1) rfl 1 (by decide) q146 rfl (hP.r36 (Nat.le_refl _)) rfl dX1_isTaken_31 ?_
  refine ga_iload_n X 1 dX1_isTaken_34 rfl rfl ?_
  have hj_1 : cx k < N 11 (N 16 0) := (by omega)
  obtain ⟨f_1, hE_1, hk_1, hb_1, hf_1, he_1⟩ := hP.r21 (Nat.le_refl _) (by omega)
  refine ga_st (st' := .int (nI (cx k)) :: .ref (L 11 (N 16 0)) :: []) (by rw [← ec_1]) ?_
  refine ga_callF X Y (jm_get _ X.tr G (L 11 (N 16 0)) (gc_e G L N 11 (N 16 0)) (N 11 (N 16 0)) (N 21 (N 16 0)) (cx k) _ (τ 1100 (N 16 0)) f_1 _ _ (hP.r11 (Nat.le_refl _)) hE_1 hj_1 hk_1 (by omega) (hf_1 (cx k) hj_1)) wX1_91 (ci := 11) rfl (hP.r11 (Nat.le_refl _)) ⟨Nat.le_of_ble_eq_true rfl, Nat.le_of_ble_eq_true rfl⟩ ⟨(by first | decide | omega | (dsimp only; omega)), (by first | decide | omega | (dsimp only; omega))⟩ rfl (Nat.le_of_ble_eq_true rfl) dX1_isTaken_35 (fun v9 h9 n9 hq _ => ?_) (fun _ _ _ q _ => q.elim)
  obtain ⟨rfl, hq2, hq3⟩ := hq
  rw [hq2, hq3]
  show ga Γ G _ _ _ _ 40 [(0, .ref (L 0 0)), (1, .int k)] (.ref (L 31 (1024 * (N 16 0) + (cx k))) :: [])
  refine ga_cast X (ci := 4) rfl q524 (hP.r31 (Nat.le_refl _) hj_1).1 dX1_isTaken_40 ?_
  refine ga_getN X in_X5 (ci := 4) rfl 8 (by decide) q549 rfl (hP.r31 (Nat.le_refl _) hj_1).1 rfl dX1_isTaken_43 ?_
  exact ga_zret X Y (by rcases (hP.r31 (Nat.le_refl _) rl_1).2.2 with z | z <;> rw [z] <;> rfl) dX1_isTaken_46 (by first | decide | omega | (dsimp only; omega)) (by first | decide | omega | (dsimp only; omega)) ⟨by unfold ct_isTaken; rw [if_pos hp_1, if_pos hp_2], congrArg (fun z => some (Value.int z)) (show (τ 3108 (1024 * (N 16 0) + (cx k))) = cd_isTaken τ N k from by unfold cd_isTaken; exact (rfl).symm), hn1, hF⟩
def ct_gainQ (τ : gm_S) (N : gc_L) (k : Int32) : Int32 := if 0 ≤ k ∧ k ≤ ((nI (N 11 (N 16 0))) - 1) then (if ¬ N 40 (N 16 0) = 0 then 0 else 3) else 1
def cd_gainQ (τ : gm_S) (N : gc_L) (k : Int32) : Int32 := cd_gain τ (N 16 0) (cx k)
set_option maxHeartbeats 4000000 in
theorem cm_gainQ (l : Launch) (hl : l.stackTraces = false) (G : ga_X) (L N : gc_L) (τ : gm_S) (k : Int32) (hV : gc_V N τ) : gt_C l G yX1_gain cX1_gain 2 (some FieldType.int) ({ frames := 10, cells := 3, slots := 18, locals := 140 } : Room) [.ref (L 0 0), .int k] L N τ (ct_gainQ τ N k) (some (.int (cd_gainQ τ N k))) := by
  refine gt_start RX1 hl rfl (by decide) (Nat.le_of_ble_eq_true rfl) (fun Γ h1 h n0 n1 n e X Y hP hn hF hn1 hn01 hxt => ?_)
  subst e
  show ga Γ G h n 0 0 0 [(0, .ref (L 0 0)), (1, .int k)] []
  refine ga_iload_n X 1 dX1_gain_0 rfl rfl ?_
  refine ga_iconst X (v := 0) dX1_gain_1 (by decide) ?_
  refine ga_aload_n X 0 dX1_gain_2 rfl rfl ?_
  refine ga_get X in_X1 (ci := 0) rfl 1 (by decide) q189 rfl hP.r0 rfl dX1_gain_3 ?_
  refine ga_getN X in_X2 (ci := 1) rfl 1 (by decide) q146 rfl (hP.r36 (Nat.le_refl _)) rfl dX1_gain_6 ?_
  refine ga_callF X Y (jm_size _ X.tr G (L 11 (N 16 0)) (gc_e G L N 11 (N 16 0)) (N 11 (N 16 0)) (τ 1100 (N 16 0)) _ _ (hP.r11 (Nat.le_refl _))) wX1_70 (ci := 11) rfl (hP.r11 (Nat.le_refl _)) ⟨Nat.le_of_ble_eq_true rfl, Nat.le_of_ble_eq_true rfl⟩ ⟨(by first | decide | omega | (dsimp only; omega)), (by first | decide | omega | (dsimp only; omega))⟩ rfl (Nat.le_of_ble_eq_true rfl) dX1_gain_9 (fun v9 h9 n9 hq _ => ?_) (fun _ _ _ q _ => q.elim)
  obtain ⟨rfl, hq2, hq3⟩ := hq
  rw [hq2, hq3]
  show ga Γ G _ _ _ _ 14 [(0, .ref (L 0 0)), (1, .int k)] (.int (nI (N 11 (N 16 0))) :: .int 0 :: .int k :: [])
  refine ga_iconst X (v := 1) dX1_gain_14 (by decide) ?_
  refine ga_isub X dX1_gain_15 ?_
  refine gp_callS X Y (cs_isIn _ X.tr G k 0 ((nI (N 11 (N 16 0))) - 1)) wX1_46 ⟨rfl, rfl⟩ ⟨by decide, by decide⟩ ⟨(by first | decide | omega | (dsimp only; omega)), (by first | decide | omega | (dsimp only; omega))⟩ rfl (Nat.le_of_ble_eq_true rfl) dX1_gain_16 ?_
  refine ga_callS X Y (cm_place _ X.tr G (0 ≤ k ∧ k ≤ ((nI (N 11 (N 16 0))) - 1)) _ _) wX1_41 ⟨Nat.le_of_ble_eq_true rfl, Nat.le_of_ble_eq_true rfl⟩ ⟨(by first | decide | omega | (dsimp only; omega)), (by first | decide | omega | (dsimp only; omega))⟩ rfl (Nat.le_of_ble_eq_true rfl) dX1_gain_19 (fun v9 h9 n9 hq _ => ?_) (fun E9 h9 n9 hq _ => ?_)
  rotate_left
  · obtain ⟨hc, rfl, hq2, hq3⟩ := hq
    exact ga_out X Y (fun x hx => (hxt x hx).elim) (by first | decide | omega | (dsimp only; omega)) (by first | decide | omega | (dsimp only; omega)) ⟨by unfold ct_gainQ; rw [if_neg hc]; decide, by unfold ct_gainQ; rw [if_neg hc]; rfl, Nat.le_trans hn1 hq3, by rw [hq2]; exact hF⟩
  obtain ⟨hp_1, rfl, hq2, hq3⟩ := hq
  rw [hq2, hq3]
  refine ga_widen (k2 := 1) (n2 := 6) (by first | decide | omega | (dsimp only; omega)) (by first | decide | omega | (dsimp only; omega)) ?_
  show ga Γ G _ _ _ _ 22 [(0, .ref (L 0 0)), (1, .int k)] ([])
  have hb_1 : N 11 (N 16 0) < 2147483648 := Nat.lt_of_le_of_lt (hP.n11 _) (by decide)
  obtain ⟨ec_1, rl_1⟩ := cx_cnt hp_1 hb_1
  refine ga_aload_n X 0 dX1_gain_22 rfl rfl ?_
  refine ga_get X in_X1 (ci := 0) rfl 1 (by decide) q189 rfl hP.r0 rfl dX1_gain_23 ?_
  refine ga_getN X in_X2 (ci := 1) rfl 1 (by decide) q146 rfl (hP.r36 (Nat.le_refl _)) rfl dX1_gain_26 ?_
  refine ga_iload_n X 1 dX1_gain_29 rfl rfl ?_
  have hj_1 : cx k < N 11 (N 16 0) := (by omega)
  obtain ⟨f_1, hE_1, hk_1, hb_1, hf_1, he_1⟩ := hP.r21 (Nat.le_refl _) (by omega)
  refine ga_st (st' := .int (nI (cx k)) :: .ref (L 11 (N 16 0)) :: []) (by rw [← ec_1]) ?_
  refine ga_callF X Y (jm_get _ X.tr G (L 11 (N 16 0)) (gc_e G L N 11 (N 16 0)) (N 11 (N 16 0)) (N 21 (N 16 0)) (cx k) _ (τ 1100 (N 16 0)) f_1 _ _ (hP.r11 (Nat.le_refl _)) hE_1 hj_1 hk_1 (by omega) (hf_1 (cx k) hj_1)) wX1_91 (ci := 11) rfl (hP.r11 (Nat.le_refl _)) ⟨Nat.le_of_ble_eq_true rfl, Nat.le_of_ble_eq_true rfl⟩ ⟨(by first | decide | omega | (dsimp only; omega)), (by first | decide | omega | (dsimp only; omega))⟩ rfl (Nat.le_of_ble_eq_true rfl) dX1_gain_30 (fun v9 h9 n9 hq _ => ?_) (fun _ _ _ q _ => q.elim)
  obtain ⟨rfl, hq2, hq3⟩ := hq
  rw [hq2, hq3]
  show ga Γ G _ _ _ _ 35 [(0, .ref (L 0 0)), (1, .int k)] (.ref (L 31 (1024 * (N 16 0) + (cx k))) :: [])
  refine ga_cast X (ci := 4) rfl q524 (hP.r31 (Nat.le_refl _) hj_1).1 dX1_gain_35 ?_
  refine ga_aload_n X 0 dX1_gain_38 rfl rfl ?_
  refine ga_callV X Y (cm_cleared _ X.tr G L N τ _ _ _ hP hn) wX1_192 (ci := 0) rfl hP.r0 ⟨Nat.le_of_ble_eq_true rfl, Nat.le_of_ble_eq_true rfl⟩ ⟨(by first | decide | omega | (dsimp only; omega)), (by first | decide | omega | (dsimp only; omega))⟩ rfl (Nat.le_of_ble_eq_true rfl) dX1_gain_39 (fun v9 h9 n9 hq _ => ?_) (fun E9 h9 n9 hq _ => ?_)
  rotate_left
  · obtain ⟨hc, rfl, hq2, hq3⟩ := hq
    exact ga_out X Y (fun x hx => (hxt x hx).elim) (by first | decide | omega | (dsimp only; omega)) (by first | decide | omega | (dsimp only; omega)) ⟨by unfold ct_gainQ; rw [if_pos hp_1, if_neg hc]; decide, by unfold ct_gainQ; rw [if_pos hp_1, if_neg hc]; rfl, Nat.le_trans hn1 hq3, by rw [hq2]; exact hF⟩
  obtain ⟨hp_2, rfl, hq2, hq3⟩ := hq
  rw [hq2, hq3]
  refine ga_widen (k2 := 2) (n2 := 12) (by first | decide | omega | (dsimp only; omega)) (by first | decide | omega | (dsimp only; omega)) ?_
  show ga Γ G _ _ _ _ 42 [(0, .ref (L 0 0)), (1, .int k)] (.ref (L 40 (N 16 0)) :: .ref (L 31 (1024 * (N 16 0) + (cx k))) :: [])
  refine ga_getN X in_X8 (ci := 7) rfl 1 (by decide) q1014 rfl (hP.r40 (Nat.le_refl _) hp_2) rfl dX1_gain_42 ?_
  refine ga_callV X Y (cm_gain _ X.tr G L N τ (N 16 0) (cx k) (Nat.le_refl _) hj_1 hp_2 hV _ _ _ hP hn) wX1_214 (ci := 4) rfl (hP.r31 (Nat.le_refl _) hj_1).1 ⟨Nat.le_of_ble_eq_true rfl, Nat.le_of_ble_eq_true rfl⟩ ⟨(by first | decide | omega | (dsimp only; omega)), (by first | decide | omega | (dsimp only; omega))⟩ rfl (Nat.le_of_ble_eq_true rfl) dX1_gain_45 (fun v9 h9 n9 hq _ => ?_) (fun _ _ _ q _ => q.elim)
  obtain ⟨rfl, hq2, hq3⟩ := hq
  rw [hq2, hq3]
  refine ga_widen (k2 := 2) (n2 := 12) (by first | decide | omega | (dsimp only; omega)) (by first | decide | omega | (dsimp only; omega)) ?_
  show ga Γ G _ _ _ _ 48 [(0, .ref (L 0 0)), (1, .int k)] (.int (cd_gain τ (N 16 0) (cx k)) :: [])
  exact ga_iret X Y dX1_gain_48 (by first | decide | omega | (dsimp only; omega)) (by first | decide | omega | (dsimp only; omega)) ⟨by unfold ct_gainQ; rw [if_pos hp_1, if_pos hp_2], congrArg (fun z => some (Value.int z)) (show (cd_gain τ (N 16 0) (cx k)) = cd_gainQ τ N k from by unfold cd_gainQ; exact (rfl).symm), hn1, hF⟩
def cd_wa1 (τ : gm_S) (N : gc_L) : Nat → Int32
  | 0 => 0
  | i + 1 => (cd_wa1 τ N i) + (if (τ 3003 (1024 * (N 16 0) + i)) = 0 then (-(τ 3006 (1024 * (N 16 0) + i))) * (τ 3004 (1024 * (N 16 0) + i)) else (τ 3006 (1024 * (N 16 0) + i)) * (τ 3004 (1024 * (N 16 0) + i)))
theorem cd_wa1_s (τ : gm_S) (N : gc_L) (i : Nat) : cd_wa1 τ N (i + 1) = (cd_wa1 τ N i) + (if (τ 3003 (1024 * (N 16 0) + i)) = 0 then (-(τ 3006 (1024 * (N 16 0) + i))) * (τ 3004 (1024 * (N 16 0) + i)) else (τ 3006 (1024 * (N 16 0) + i)) * (τ 3004 (1024 * (N 16 0) + i))) := rfl
def cd_wa2 (τ : gm_S) (N : gc_L) : Nat → Int32
  | 0 => cd_wa1 τ N (N 10 (N 16 0))
  | i + 1 => (cd_wa2 τ N i) + (if (τ 3108 (1024 * (N 16 0) + i)) = 0 then 0 else cd_worth τ (N 16 0) i)
theorem cd_wa2_s (τ : gm_S) (N : gc_L) (i : Nat) : cd_wa2 τ N (i + 1) = (cd_wa2 τ N i) + (if (τ 3108 (1024 * (N 16 0) + i)) = 0 then 0 else cd_worth τ (N 16 0) i) := rfl
def ct_worthAnew (τ : gm_S) (N : gc_L) : Int32 := if ¬ N 40 (N 16 0) = 0 then 0 else 3
def cd_worthAnew (τ : gm_S) (N : gc_L) : Int32 := cd_wa2 τ N (N 11 (N 16 0))
set_option maxHeartbeats 4000000 in
theorem cm_worthAnew (l : Launch) (hl : l.stackTraces = false) (G : ga_X) (L N : gc_L) (τ : gm_S)  : gt_C l G yX1_worthAnew cX1_worthAnew 4 (some FieldType.int) ({ frames := 10, cells := 5, slots := 26, locals := 140 } : Room) [.ref (L 0 0)] L N τ (ct_worthAnew τ N) (some (.int (cd_worthAnew τ N))) := by
  refine gt_start RX1 hl rfl (by decide) (Nat.le_of_ble_eq_true rfl) (fun Γ h1 h n0 n1 n e X Y hP hn hF hn1 hn01 hxt => ?_)
  subst e
  show ga Γ G h n 0 0 0 [(0, .ref (L 0 0))] []
  refine ga_aload_n X 0 dX1_worthAnew_0 rfl rfl ?_
  refine ga_callV X Y (cm_cleared _ X.tr G L N τ _ _ _ hP hn) wX1_192 (ci := 0) rfl hP.r0 ⟨Nat.le_of_ble_eq_true rfl, Nat.le_of_ble_eq_true rfl⟩ ⟨(by first | decide | omega | (dsimp only; omega)), (by first | decide | omega | (dsimp only; omega))⟩ rfl (Nat.le_of_ble_eq_true rfl) dX1_worthAnew_1 (fun v9 h9 n9 hq _ => ?_) (fun E9 h9 n9 hq _ => ?_)
  rotate_left
  · obtain ⟨hc, rfl, hq2, hq3⟩ := hq
    exact ga_out X Y (fun x hx => (hxt x hx).elim) (by first | decide | omega | (dsimp only; omega)) (by first | decide | omega | (dsimp only; omega)) ⟨by unfold ct_worthAnew; rw [if_neg hc]; decide, by unfold ct_worthAnew; rw [if_neg hc]; rfl, Nat.le_trans hn1 hq3, by rw [hq2]; exact hF⟩
  obtain ⟨hp_1, rfl, hq2, hq3⟩ := hq
  rw [hq2, hq3]
  refine ga_widen (k2 := 1) (n2 := 6) (by first | decide | omega | (dsimp only; omega)) (by first | decide | omega | (dsimp only; omega)) ?_
  show ga Γ G _ _ _ _ 4 [(0, .ref (L 0 0))] (.ref (L 40 (N 16 0)) :: [])
  refine ga_pop X dX1_worthAnew_4 rfl ?_
  refine ga_iconst X (v := 0) dX1_worthAnew_5 (by decide) ?_
  refine ga_istore_n X [(1, .int 0), (0, .ref (L 0 0))] dX1_worthAnew_6 rfl (by decide) rfl ?_
  refine ga_aload_n X 1 dX1_worthAnew_7 rfl rfl ?_
  refine ga_get X in_X1 (ci := 0) rfl 1 (by decide) q189 rfl hP.r0 rfl dX1_worthAnew_8 ?_
  refine ga_getN X in_X2 (ci := 1) rfl 0 (by decide) q144 rfl (hP.r36 (Nat.le_refl _)) rfl dX1_worthAnew_11 ?_
  refine ga_callF X Y (jm_iter _ X.tr G (L 10 (N 16 0)) (gc_e G L N 10 (N 16 0)) (N 10 (N 16 0)) (τ 1000 (N 16 0)) _ _ (hP.r10 (Nat.le_refl _)) (Nat.lt_of_lt_of_le (hP.lt (hP.l10 (Nat.le_refl _))) hn) (Nat.le_trans hP.G hn)) wX1_218 (ci := 11) rfl (hP.r10 (Nat.le_refl _)) ⟨Nat.le_of_ble_eq_true rfl, Nat.le_of_ble_eq_true rfl⟩ ⟨(by first | decide | omega | (dsimp only; omega)), (by first | decide | omega | (dsimp only; omega))⟩ rfl (Nat.le_of_ble_eq_true rfl) dX1_worthAnew_14 (fun v9 h9 n9 hq _ => ?_) (fun _ _ _ q _ => q.elim)
  obtain ⟨rfl, hq2, hq3⟩ := hq
  rw [hq2, hq3]
  refine ga_widen (k2 := 2) (n2 := 10) (by first | decide | omega | (dsimp only; omega)) (by first | decide | omega | (dsimp only; omega)) ?_
  refine gq_al (P := fun t h n => ga Γ G h n 2 10 19 [(1, .int 0), (0, .ref (L 0 0))] (.ref t :: [])) hP hn hF hn1 (fun t14 h n hP hn hF hn1 hk ht_t14 hl_t14 ha_t14 hb_t14 he_t14 => ?_)
  refine ga_astore_n X [(2, .ref t14), (1, .int 0), (0, .ref (L 0 0))] dX1_worthAnew_19 rfl (by decide) rfl ?_
  have L20 : ∀ (fu i : Nat) (lr : Int32) (h : ga_H) (n : Nat) (x1 : Int32), i ≤ N 10 (N 16 0) → N 10 (N 16 0) < i + fu → x1 = (cd_wa1 τ N i) → gc_P G L N (τ) n0 h → n0 ≤ n → (∀ a, a < n1 → h a = h1 a) → n1 ≤ n → h t14 = some (ga_O 12 [.int (nI i), .int lr, .int (τ 1000 (N 16 0)), .ref (L 10 (N 16 0))]) → t14 < n → ga Γ G h n 2 10 20 [(0, .ref (L 0 0)), (1, .int x1), (2, .ref t14)] ([]) := by
    intro fu
    induction fu with
    | zero => intro i lr h n x1 hi hd; exact absurd hd (by omega)
    | succ fu ih20 =>
      intro i lr h n x1 hi20 hd20 e1 hP hn hF hn1 ht_t14 hl_t14
      rw [e1]
      refine ga_aload_n X 2 dX1_worthAnew_20 rfl rfl ?_
      refine ga_callF X Y (jm_hn _ X.tr G t14 (L 10 (N 16 0)) (gc_e G L N 10 (N 16 0)) (N 10 (N 16 0)) i (τ 1000 (N 16 0)) lr _ _ ht_t14 (hP.r10 (Nat.le_refl _)) (by omega) (Nat.lt_of_le_of_lt (hP.n10 (N 16 0)) (by decide))) wX1_222 (ci := 12) rfl ht_t14 ⟨Nat.le_of_ble_eq_true rfl, Nat.le_of_ble_eq_true rfl⟩ ⟨(by first | decide | omega | (dsimp only; omega)), (by first | decide | omega | (dsimp only; omega))⟩ rfl (Nat.le_of_ble_eq_true rfl) dX1_worthAnew_21 (fun v9 h9 n9 hq _ => ?_) (fun _ _ _ q _ => q.elim)
      obtain ⟨rfl, hq2, hq3⟩ := hq
      rw [hq2, hq3]
      show ga Γ G _ _ _ _ 26 [(0, .ref (L 0 0)), (1, .int (cd_wa1 τ N i)), (2, .ref t14)] (.int (bI (i < N 10 (N 16 0))) :: [])
      refine ga_ifb_eq X (tgt := 74) dX1_worthAnew_26 (by decide) (fun c_26 => ?_) (fun c_26 => ?_)
      · have hx_26 : N 10 (N 16 0) = i := Nat.le_antisymm (Nat.le_of_not_lt c_26) hi20
        subst hx_26
        refine ga_aload_n X 0 dX1_worthAnew_74 rfl rfl ?_
        refine ga_get X in_X1 (ci := 0) rfl 1 (by decide) q189 rfl hP.r0 rfl dX1_worthAnew_75 ?_
        refine ga_getN X in_X2 (ci := 1) rfl 1 (by decide) q146 rfl (hP.r36 (Nat.le_refl _)) rfl dX1_worthAnew_78 ?_
        refine ga_callF X Y (jm_iter _ X.tr G (L 11 (N 16 0)) (gc_e G L N 11 (N 16 0)) (N 11 (N 16 0)) (τ 1100 (N 16 0)) _ _ (hP.r11 (Nat.le_refl _)) (Nat.lt_of_lt_of_le (hP.lt (hP.l11 (Nat.le_refl _))) hn) (Nat.le_trans hP.G hn)) wX1_218 (ci := 11) rfl (hP.r11 (Nat.le_refl _)) ⟨Nat.le_of_ble_eq_true rfl, Nat.le_of_ble_eq_true rfl⟩ ⟨(by first | decide | omega | (dsimp only; omega)), (by first | decide | omega | (dsimp only; omega))⟩ rfl (Nat.le_of_ble_eq_true rfl) dX1_worthAnew_81 (fun v9 h9 n9 hq _ => ?_) (fun _ _ _ q _ => q.elim)
        obtain ⟨rfl, hq2, hq3⟩ := hq
        rw [hq2, hq3]
        refine ga_widen (k2 := 3) (n2 := 14) (by first | decide | omega | (dsimp only; omega)) (by first | decide | omega | (dsimp only; omega)) ?_
        refine gq_al (P := fun t h n => ga Γ G h n 3 14 86 [(0, .ref (L 0 0)), (1, .int (cd_wa1 τ N (N 10 (N 16 0)))), (2, .ref t14)] (.ref t :: [])) hP hn hF hn1 (fun t81 h n hP hn hF hn1 hk ht_t81 hl_t81 ha_t81 hb_t81 he_t81 => ?_)
        refine ga_astore_n X [(2, .ref t81), (0, .ref (L 0 0)), (1, .int (cd_wa1 τ N (N 10 (N 16 0))))] dX1_worthAnew_86 rfl (by decide) rfl ?_
        have L87 : ∀ (fu i : Nat) (lr : Int32) (h : ga_H) (n : Nat) (x1 : Int32), i ≤ N 11 (N 16 0) → N 11 (N 16 0) < i + fu → x1 = (cd_wa2 τ N i) → gc_P G L N (τ) n0 h → n0 ≤ n → (∀ a, a < n1 → h a = h1 a) → n1 ≤ n → h t81 = some (ga_O 12 [.int (nI i), .int lr, .int (τ 1100 (N 16 0)), .ref (L 11 (N 16 0))]) → t81 < n → ga Γ G h n 3 14 87 [(0, .ref (L 0 0)), (1, .int x1), (2, .ref t81)] ([]) := by
          intro fu
          induction fu with
          | zero => intro i lr h n x1 hi hd; exact absurd hd (by omega)
          | succ fu ih87 =>
            intro i lr h n x1 hi87 hd87 e1 hP hn hF hn1 ht_t81 hl_t81
            rw [e1]
            refine ga_aload_n X 2 dX1_worthAnew_87 rfl rfl ?_
            refine ga_callF X Y (jm_hn _ X.tr G t81 (L 11 (N 16 0)) (gc_e G L N 11 (N 16 0)) (N 11 (N 16 0)) i (τ 1100 (N 16 0)) lr _ _ ht_t81 (hP.r11 (Nat.le_refl _)) (by omega) (Nat.lt_of_le_of_lt (hP.n11 (N 16 0)) (by decide))) wX1_222 (ci := 12) rfl ht_t81 ⟨Nat.le_of_ble_eq_true rfl, Nat.le_of_ble_eq_true rfl⟩ ⟨(by first | decide | omega | (dsimp only; omega)), (by first | decide | omega | (dsimp only; omega))⟩ rfl (Nat.le_of_ble_eq_true rfl) dX1_worthAnew_88 (fun v9 h9 n9 hq _ => ?_) (fun _ _ _ q _ => q.elim)
            obtain ⟨rfl, hq2, hq3⟩ := hq
            rw [hq2, hq3]
            show ga Γ G _ _ _ _ 93 [(0, .ref (L 0 0)), (1, .int (cd_wa2 τ N i)), (2, .ref t81)] (.int (bI (i < N 11 (N 16 0))) :: [])
            refine ga_ifb_eq X (tgt := 127) dX1_worthAnew_93 (by decide) (fun c_93 => ?_) (fun c_93 => ?_)
            · have hx_93 : N 11 (N 16 0) = i := Nat.le_antisymm (Nat.le_of_not_lt c_93) hi87
              subst hx_93
              refine ga_iload_n X 1 dX1_worthAnew_127 rfl rfl ?_
              exact ga_iret X Y dX1_worthAnew_128 (by first | decide | omega | (dsimp only; omega)) (by first | decide | omega | (dsimp only; omega)) ⟨by unfold ct_worthAnew; rw [if_pos hp_1], congrArg (fun z => some (Value.int z)) (show (cd_wa2 τ N (N 11 (N 16 0))) = cd_worthAnew τ N from by unfold cd_worthAnew; exact (rfl).symm), hn1, hF⟩
            · have hx_93 : i < N 11 (N 16 0) := c_93
              refine ga_aload_n X 2 dX1_worthAnew_96 rfl rfl ?_
              have hj_1 : i < N 11 (N 16 0) := by omega
              obtain ⟨f_1, hE_1, hk_1, hb_1, hf_1, he_1⟩ := hP.r21 (Nat.le_refl _) (by omega)
              have hx_1 := hP.lt (hP.l11 (Nat.le_refl _))
              have hy_1 := hP.lt (hP.l21 (Nat.le_refl _) (by omega))
              rw [← he_1] at hy_1
              refine ga_callF X Y (jm_next _ X.tr G t81 (L 11 (N 16 0)) (gc_e G L N 11 (N 16 0)) (N 11 (N 16 0)) (N 21 (N 16 0)) i _ (τ 1100 (N 16 0)) lr f_1 _ _ ht_t81 (Nat.le_trans hP.G hb_t81) (hP.r11 (Nat.le_refl _)) hE_1 hj_1 hk_1 (by omega) (hf_1 i hj_1) (by omega) (by omega)) wX1_228 (ci := 12) rfl ht_t81 ⟨Nat.le_of_ble_eq_true rfl, Nat.le_of_ble_eq_true rfl⟩ ⟨(by first | decide | omega | (dsimp only; omega)), (by first | decide | omega | (dsimp only; omega))⟩ rfl (Nat.le_of_ble_eq_true rfl) dX1_worthAnew_97 (fun v9 h9 n9 hq _ => ?_) (fun _ _ _ q _ => q.elim)
              obtain ⟨rfl, hq2, hq3⟩ := hq
              rw [hq2, hq3]
              show ga Γ G _ _ _ _ 102 [(0, .ref (L 0 0)), (1, .int (cd_wa2 τ N i)), (2, .ref t81)] (.ref (L 31 (1024 * (N 16 0) + i)) :: [])
              refine gq_up (P := fun h => ga Γ G h n 3 14 102 [(0, .ref (L 0 0)), (1, .int (cd_wa2 τ N i)), (2, .ref t81)] (.ref (L 31 (1024 * (N 16 0) + i)) :: [])) hP hF hb_t81 ha_t81 (fun h hP hF ht_t81 hk => ?_)
              refine ga_cast X (ci := 4) rfl q524 (hP.r31 (Nat.le_refl _) hj_1).1 dX1_worthAnew_102 ?_
              refine ga_astore_n X [(3, .ref (L 31 (1024 * (N 16 0) + i))), (0, .ref (L 0 0)), (1, .int (cd_wa2 τ N i)), (2, .ref t81)] dX1_worthAnew_105 rfl (by decide) rfl ?_
              refine ga_iload_n X 2 dX1_worthAnew_106 rfl rfl ?_
              refine ga_aload_n X 0 dX1_worthAnew_107 rfl rfl ?_
              refine ga_getN X in_X5 (ci := 4) rfl 8 (by decide) q549 rfl (hP.r31 (Nat.le_refl _) hj_1).1 rfl dX1_worthAnew_108 ?_
              have J122 : ∀ (v122 : Int32), v122 = (if (τ 3108 (1024 * (N 16 0) + i)) = 0 then 0 else cd_worth τ (N 16 0) i) → ga Γ G h n 3 14 122 [(3, .ref (L 31 (1024 * (N 16 0) + i))), (0, .ref (L 0 0)), (1, .int (cd_wa2 τ N i)), (2, .ref t81)] (.int v122 :: .int (cd_wa2 τ N i) :: []) := by
                intro v122 ev122
                subst ev122
                refine ga_iadd X dX1_worthAnew_122 ?_
                refine ga_istore_n X [(1, .int ((cd_wa2 τ N i) + (if (τ 3108 (1024 * (N 16 0) + i)) = 0 then 0 else cd_worth τ (N 16 0) i))), (3, .ref (L 31 (1024 * (N 16 0) + i))), (0, .ref (L 0 0)), (2, .ref t81)] dX1_worthAnew_123 rfl (by decide) rfl ?_
                refine ga_goto X (tgt := 87) dX1_worthAnew_124 (by decide) ?_
                refine ga_sub [2, 0, 3] rfl ?_
                exact ih87 (i + 1) _ h n _ (by omega) (by omega) ((cd_wa2_s τ N i).symm) hP hn hF hn1 ht_t81 hl_t81
              refine ga_if_eq X (tgt := 121) dX1_worthAnew_111 (by decide) (fun c_111 => ?_) (fun c_111 => ?_)
              · refine ga_iconst X (v := 0) dX1_worthAnew_121 (by decide) ?_
                exact J122 _ ((if_pos c_111).symm)
              · refine ga_aload_n X 0 dX1_worthAnew_114 rfl rfl ?_
                refine ga_callV X Y (cm_worth _ X.tr G L N τ (N 16 0) i (Nat.le_refl _) hj_1 _ _ _ hP hn) wX1_238 (ci := 4) rfl (hP.r31 (Nat.le_refl _) hj_1).1 ⟨Nat.le_of_ble_eq_true rfl, Nat.le_of_ble_eq_true rfl⟩ ⟨(by first | decide | omega | (dsimp only; omega)), (by first | decide | omega | (dsimp only; omega))⟩ rfl (Nat.le_of_ble_eq_true rfl) dX1_worthAnew_115 (fun v9 h9 n9 hq _ => ?_) (fun _ _ _ q _ => q.elim)
                obtain ⟨rfl, hq2, hq3⟩ := hq
                rw [hq2, hq3]
                refine ga_widen (k2 := 3) (n2 := 14) (by first | decide | omega | (dsimp only; omega)) (by first | decide | omega | (dsimp only; omega)) ?_
                show ga Γ G _ _ _ _ 118 [(3, .ref (L 31 (1024 * (N 16 0) + i))), (0, .ref (L 0 0)), (1, .int (cd_wa2 τ N i)), (2, .ref t81)] (.int (cd_worth τ (N 16 0) i) :: .int (cd_wa2 τ N i) :: [])
                refine ga_goto X (tgt := 122) dX1_worthAnew_118 (by decide) ?_
                exact J122 _ ((if_neg c_111).symm)
        refine ga_sub [1, 2, 0] rfl ?_
        exact L87 (N 11 (N 16 0) + 1) 0 _ h n _ (by omega) (by omega) rfl hP hn hF hn1 ht_t81 hl_t81
      · have hx_26 : i < N 10 (N 16 0) := c_26
        refine ga_aload_n X 2 dX1_worthAnew_29 rfl rfl ?_
        have hj_2 : i < N 10 (N 16 0) := by omega
        obtain ⟨f_2, hE_2, hk_2, hb_2, hf_2, he_2⟩ := hP.r20 (Nat.le_refl _) (by omega)
        have hx_2 := hP.lt (hP.l10 (Nat.le_refl _))
        have hy_2 := hP.lt (hP.l20 (Nat.le_refl _) (by omega))
        rw [← he_2] at hy_2
        refine ga_callF X Y (jm_next _ X.tr G t14 (L 10 (N 16 0)) (gc_e G L N 10 (N 16 0)) (N 10 (N 16 0)) (N 20 (N 16 0)) i _ (τ 1000 (N 16 0)) lr f_2 _ _ ht_t14 (Nat.le_trans hP.G hb_t14) (hP.r10 (Nat.le_refl _)) hE_2 hj_2 hk_2 (by omega) (hf_2 i hj_2) (by omega) (by omega)) wX1_228 (ci := 12) rfl ht_t14 ⟨Nat.le_of_ble_eq_true rfl, Nat.le_of_ble_eq_true rfl⟩ ⟨(by first | decide | omega | (dsimp only; omega)), (by first | decide | omega | (dsimp only; omega))⟩ rfl (Nat.le_of_ble_eq_true rfl) dX1_worthAnew_30 (fun v9 h9 n9 hq _ => ?_) (fun _ _ _ q _ => q.elim)
        obtain ⟨rfl, hq2, hq3⟩ := hq
        rw [hq2, hq3]
        show ga Γ G _ _ _ _ 35 [(0, .ref (L 0 0)), (1, .int (cd_wa1 τ N i)), (2, .ref t14)] (.ref (L 30 (1024 * (N 16 0) + i)) :: [])
        refine gq_up (P := fun h => ga Γ G h n 2 10 35 [(0, .ref (L 0 0)), (1, .int (cd_wa1 τ N i)), (2, .ref t14)] (.ref (L 30 (1024 * (N 16 0) + i)) :: [])) hP hF hb_t14 ha_t14 (fun h hP hF ht_t14 hk => ?_)
        refine ga_cast X (ci := 3) rfl q402 (hP.r30 (Nat.le_refl _) hj_2) dX1_worthAnew_35 ?_
        refine ga_astore_n X [(3, .ref (L 30 (1024 * (N 16 0) + i))), (0, .ref (L 0 0)), (1, .int (cd_wa1 τ N i)), (2, .ref t14)] dX1_worthAnew_38 rfl (by decide) rfl ?_
        refine ga_iload_n X 2 dX1_worthAnew_39 rfl rfl ?_
        refine ga_aload_n X 0 dX1_worthAnew_40 rfl rfl ?_
        refine ga_getN X in_X4 (ci := 3) rfl 3 (by decide) q420 rfl (hP.r30 (Nat.le_refl _) hj_2) rfl dX1_worthAnew_41 ?_
        have J69 : ∀ (v69 : Int32), v69 = (if (τ 3003 (1024 * (N 16 0) + i)) = 0 then (-(τ 3006 (1024 * (N 16 0) + i))) * (τ 3004 (1024 * (N 16 0) + i)) else (τ 3006 (1024 * (N 16 0) + i)) * (τ 3004 (1024 * (N 16 0) + i))) → ga Γ G h n 2 10 69 [(3, .ref (L 30 (1024 * (N 16 0) + i))), (0, .ref (L 0 0)), (1, .int (cd_wa1 τ N i)), (2, .ref t14)] (.int v69 :: .int (cd_wa1 τ N i) :: []) := by
          intro v69 ev69
          subst ev69
          refine ga_iadd X dX1_worthAnew_69 ?_
          refine ga_istore_n X [(1, .int ((cd_wa1 τ N i) + (if (τ 3003 (1024 * (N 16 0) + i)) = 0 then (-(τ 3006 (1024 * (N 16 0) + i))) * (τ 3004 (1024 * (N 16 0) + i)) else (τ 3006 (1024 * (N 16 0) + i)) * (τ 3004 (1024 * (N 16 0) + i))))), (3, .ref (L 30 (1024 * (N 16 0) + i))), (0, .ref (L 0 0)), (2, .ref t14)] dX1_worthAnew_70 rfl (by decide) rfl ?_
          refine ga_goto X (tgt := 20) dX1_worthAnew_71 (by decide) ?_
          refine ga_sub [2, 0, 3] rfl ?_
          exact ih20 (i + 1) _ h n _ (by omega) (by omega) ((cd_wa1_s τ N i).symm) hP hn hF hn1 ht_t14 hl_t14
        refine ga_if_eq X (tgt := 59) dX1_worthAnew_44 (by decide) (fun c_44 => ?_) (fun c_44 => ?_)
        · refine ga_aload_n X 0 dX1_worthAnew_59 rfl rfl ?_
          refine ga_getN X in_X4 (ci := 3) rfl 6 (by decide) q428 rfl (hP.r30 (Nat.le_refl _) hj_2) rfl dX1_worthAnew_60 ?_
          refine ga_ineg X dX1_worthAnew_63 ?_
          refine ga_aload_n X 0 dX1_worthAnew_64 rfl rfl ?_
          refine ga_getN X in_X4 (ci := 3) rfl 4 (by decide) q423 rfl (hP.r30 (Nat.le_refl _) hj_2) rfl dX1_worthAnew_65 ?_
          refine ga_imul X dX1_worthAnew_68 ?_
          exact J69 _ ((if_pos c_44).symm)
        · refine ga_aload_n X 0 dX1_worthAnew_47 rfl rfl ?_
          refine ga_getN X in_X4 (ci := 3) rfl 6 (by decide) q428 rfl (hP.r30 (Nat.le_refl _) hj_2) rfl dX1_worthAnew_48 ?_
          refine ga_aload_n X 0 dX1_worthAnew_51 rfl rfl ?_
          refine ga_getN X in_X4 (ci := 3) rfl 4 (by decide) q423 rfl (hP.r30 (Nat.le_refl _) hj_2) rfl dX1_worthAnew_52 ?_
          refine ga_imul X dX1_worthAnew_55 ?_
          refine ga_goto X (tgt := 69) dX1_worthAnew_56 (by decide) ?_
          exact J69 _ ((if_neg c_44).symm)
  refine ga_sub [2, 1, 0] rfl ?_
  exact L20 (N 10 (N 16 0) + 1) 0 _ h n _ (by omega) (by omega) rfl hP hn hF hn1 ht_t14 hl_t14
def ct_gapQ (τ : gm_S) (N : gc_L) (dy y : Int32) : Int32 := if 0 ≤ dy ∧ dy ≤ nI (N 16 0) - 1 then (if 0 ≤ y ∧ y ≤ 3 then 0 else 1) else 1
def cd_gapQ (τ : gm_S) (N : gc_L) (dy y : Int32) : Int32 := cd_gapin τ N (cx dy) (cx y)
set_option maxHeartbeats 4000000 in
theorem cm_gapQ (l : Launch) (hl : l.stackTraces = false) (G : ga_X) (L N : gc_L) (τ : gm_S) (dy y : Int32)  : gt_C l G yX1_gap cX1_gap 4 (some FieldType.int) ({ frames := 10, cells := 60, slots := 260, locals := 141 } : Room) [.ref (L 0 0), .int dy, .int y] L N τ (ct_gapQ τ N dy y) (some (.int (cd_gapQ τ N dy y))) := by
  refine gt_start RX1 hl rfl (by decide) (Nat.le_of_ble_eq_true rfl) (fun Γ h1 h n0 n1 n e X Y hP hn hF hn1 hn01 hxt => ?_)
  subst e
  show ga Γ G h n 0 0 0 [(0, .ref (L 0 0)), (1, .int dy), (2, .int y)] []
  refine ga_aload_n X 0 dX1_gap_0 rfl rfl ?_
  refine ga_iload_n X 1 dX1_gap_1 rfl rfl ?_
  refine ga_callV X Y (cm_closed _ X.tr G L N τ dy _ _ _ hP hn) wX1_160 (ci := 0) rfl hP.r0 ⟨Nat.le_of_ble_eq_true rfl, Nat.le_of_ble_eq_true rfl⟩ ⟨(by first | decide | omega | (dsimp only; omega)), (by first | decide | omega | (dsimp only; omega))⟩ rfl (Nat.le_of_ble_eq_true rfl) dX1_gap_2 (fun v9 h9 n9 hq _ => ?_) (fun E9 h9 n9 hq _ => ?_)
  rotate_left
  · obtain ⟨hc, rfl, hq2, hq3⟩ := hq
    exact ga_out X Y (fun x hx => (hxt x hx).elim) (by first | decide | omega | (dsimp only; omega)) (by first | decide | omega | (dsimp only; omega)) ⟨by unfold ct_gapQ; rw [if_neg hc]; decide, by unfold ct_gapQ; rw [if_neg hc]; rfl, Nat.le_trans hn1 hq3, by rw [hq2]; exact hF⟩
  obtain ⟨hp_1, rfl, hq2, hq3⟩ := hq
  rw [hq2, hq3]
  refine ga_widen (k2 := 1) (n2 := 6) (by first | decide | omega | (dsimp only; omega)) (by first | decide | omega | (dsimp only; omega)) ?_
  show ga Γ G _ _ _ _ 5 [(0, .ref (L 0 0)), (1, .int dy), (2, .int y)] (.ref (L 36 (cx dy)) :: [])
  have hb_1 : N 16 0 < 2147483648 := Nat.lt_of_le_of_lt hP.n16 (by decide)
  obtain ⟨ec_1, rl_1⟩ := cx_cnt hp_1 hb_1
  refine ga_astore_n X [(3, .ref (L 36 (cx dy))), (0, .ref (L 0 0)), (1, .int dy), (2, .int y)] dX1_gap_5 rfl (by decide) rfl ?_
  refine ga_iload_n X 3 dX1_gap_6 rfl rfl ?_
  refine gp_callS X Y (cs_isHour _ X.tr G y) wX1_64 ⟨rfl, rfl⟩ ⟨by decide, by decide⟩ ⟨(by first | decide | omega | (dsimp only; omega)), (by first | decide | omega | (dsimp only; omega))⟩ rfl (Nat.le_of_ble_eq_true rfl) dX1_gap_7 ?_
  refine ga_callS X Y (cm_place _ X.tr G (0 ≤ y ∧ y ≤ 3) _ _) wX1_41 ⟨Nat.le_of_ble_eq_true rfl, Nat.le_of_ble_eq_true rfl⟩ ⟨(by first | decide | omega | (dsimp only; omega)), (by first | decide | omega | (dsimp only; omega))⟩ rfl (Nat.le_of_ble_eq_true rfl) dX1_gap_10 (fun v9 h9 n9 hq _ => ?_) (fun E9 h9 n9 hq _ => ?_)
  rotate_left
  · obtain ⟨hc, rfl, hq2, hq3⟩ := hq
    exact ga_out X Y (fun x hx => (hxt x hx).elim) (by first | decide | omega | (dsimp only; omega)) (by first | decide | omega | (dsimp only; omega)) ⟨by unfold ct_gapQ; rw [if_pos hp_1, if_neg hc]; decide, by unfold ct_gapQ; rw [if_pos hp_1, if_neg hc]; rfl, Nat.le_trans hn1 hq3, by rw [hq2]; exact hF⟩
  obtain ⟨hp_2, rfl, hq2, hq3⟩ := hq
  rw [hq2, hq3]
  refine ga_widen (k2 := 2) (n2 := 12) (by first | decide | omega | (dsimp only; omega)) (by first | decide | omega | (dsimp only; omega)) ?_
  show ga Γ G _ _ _ _ 13 [(3, .ref (L 36 (cx dy))), (0, .ref (L 0 0)), (1, .int dy), (2, .int y)] ([])
  have rl_2 := cx_lt hp_2 (m := 4) (by decide) (by decide)
  refine ga_aload_n X 0 dX1_gap_13 rfl rfl ?_
  refine ga_iload_n X 3 dX1_gap_14 rfl rfl ?_
  refine ga_st (st' := .int (nI (cx y)) :: .ref (L 36 (cx dy)) :: []) (by rw [← (cx_e hp_2)]) ?_
  refine ga_callV X Y (cm_gapin _ X.tr G L N τ (cx dy) (cx y) (Nat.le_of_lt rl_1) (by omega) _ _ _ hP hn) wX1_246 (ci := 1) rfl (hP.r36 (Nat.le_of_lt rl_1)) ⟨Nat.le_of_ble_eq_true rfl, Nat.le_of_ble_eq_true rfl⟩ ⟨(by first | decide | omega | (dsimp only; omega)), (by first | decide | omega | (dsimp only; omega))⟩ rfl (Nat.le_of_ble_eq_true rfl) dX1_gap_15 (fun v9 h n hq _ => ?_) (fun _ _ _ q _ => q.elim)
  obtain ⟨rfl, hq2, hq3⟩ := hq
  have hP := hP.temp (fun a ha => hq3 a (by omega))
  have hF := fun a (ha : a < n1) => (hq3 a (by omega)).trans (hF a ha)
  have hn := Nat.le_trans hn hq2
  have hn1 := Nat.le_trans hn1 hq2
  refine ga_widen (k2 := 56) (n2 := 228) (by first | decide | omega | (dsimp only; omega)) (by first | decide | omega | (dsimp only; omega)) ?_
  show ga Γ G _ _ _ _ 18 [(3, .ref (L 36 (cx dy))), (0, .ref (L 0 0)), (1, .int dy), (2, .int y)] (.int (cd_gapin τ N (cx dy) (cx y)) :: [])
  exact ga_iret X Y dX1_gap_18 (by first | decide | omega | (dsimp only; omega)) (by first | decide | omega | (dsimp only; omega)) ⟨by unfold ct_gapQ; rw [if_pos hp_1, if_pos hp_2], congrArg (fun z => some (Value.int z)) (show (cd_gapin τ N (cx dy) (cx y)) = cd_gapQ τ N dy y from by unfold cd_gapQ; exact (rfl).symm), hn1, hF⟩
def ct_gapPriceQ (τ : gm_S) (N : gc_L) (dy y : Int32) : Int32 := if 0 ≤ dy ∧ dy ≤ nI (N 16 0) - 1 then (if 0 ≤ y ∧ y ≤ 3 then 0 else 1) else 1
def cd_gapPriceQ (τ : gm_S) (N : gc_L) (dy y : Int32) : Int32 := cd_gapPrice τ N (cx dy) (cx y)
set_option maxHeartbeats 4000000 in
theorem cm_gapPriceQ (l : Launch) (hl : l.stackTraces = false) (G : ga_X) (L N : gc_L) (τ : gm_S) (dy y : Int32) (hR : ∀ d, d < N 16 0 → N 40 d ≠ 0) : gt_C l G yX1_gapPrice cX1_gapPrice 4 (some FieldType.int) ({ frames := 10, cells := 115, slots := 500, locals := 192 } : Room) [.ref (L 0 0), .int dy, .int y] L N τ (ct_gapPriceQ τ N dy y) (some (.int (cd_gapPriceQ τ N dy y))) := by
  refine gt_start RX1 hl rfl (by decide) (Nat.le_of_ble_eq_true rfl) (fun Γ h1 h n0 n1 n e X Y hP hn hF hn1 hn01 hxt => ?_)
  subst e
  show ga Γ G h n 0 0 0 [(0, .ref (L 0 0)), (1, .int dy), (2, .int y)] []
  refine ga_aload_n X 0 dX1_gapPrice_0 rfl rfl ?_
  refine ga_iload_n X 1 dX1_gapPrice_1 rfl rfl ?_
  refine ga_callV X Y (cm_closed _ X.tr G L N τ dy _ _ _ hP hn) wX1_160 (ci := 0) rfl hP.r0 ⟨Nat.le_of_ble_eq_true rfl, Nat.le_of_ble_eq_true rfl⟩ ⟨(by first | decide | omega | (dsimp only; omega)), (by first | decide | omega | (dsimp only; omega))⟩ rfl (Nat.le_of_ble_eq_true rfl) dX1_gapPrice_2 (fun v9 h9 n9 hq _ => ?_) (fun E9 h9 n9 hq _ => ?_)
  rotate_left
  · obtain ⟨hc, rfl, hq2, hq3⟩ := hq
    exact ga_out X Y (fun x hx => (hxt x hx).elim) (by first | decide | omega | (dsimp only; omega)) (by first | decide | omega | (dsimp only; omega)) ⟨by unfold ct_gapPriceQ; rw [if_neg hc]; decide, by unfold ct_gapPriceQ; rw [if_neg hc]; rfl, Nat.le_trans hn1 hq3, by rw [hq2]; exact hF⟩
  obtain ⟨hp_1, rfl, hq2, hq3⟩ := hq
  rw [hq2, hq3]
  refine ga_widen (k2 := 1) (n2 := 6) (by first | decide | omega | (dsimp only; omega)) (by first | decide | omega | (dsimp only; omega)) ?_
  show ga Γ G _ _ _ _ 5 [(0, .ref (L 0 0)), (1, .int dy), (2, .int y)] (.ref (L 36 (cx dy)) :: [])
  have hb_1 : N 16 0 < 2147483648 := Nat.lt_of_le_of_lt hP.n16 (by decide)
  obtain ⟨ec_1, rl_1⟩ := cx_cnt hp_1 hb_1
  refine ga_astore_n X [(3, .ref (L 36 (cx dy))), (0, .ref (L 0 0)), (1, .int dy), (2, .int y)] dX1_gapPrice_5 rfl (by decide) rfl ?_
  refine ga_iload_n X 3 dX1_gapPrice_6 rfl rfl ?_
  refine gp_callS X Y (cs_isHour _ X.tr G y) wX1_64 ⟨rfl, rfl⟩ ⟨by decide, by decide⟩ ⟨(by first | decide | omega | (dsimp only; omega)), (by first | decide | omega | (dsimp only; omega))⟩ rfl (Nat.le_of_ble_eq_true rfl) dX1_gapPrice_7 ?_
  refine ga_callS X Y (cm_place _ X.tr G (0 ≤ y ∧ y ≤ 3) _ _) wX1_41 ⟨Nat.le_of_ble_eq_true rfl, Nat.le_of_ble_eq_true rfl⟩ ⟨(by first | decide | omega | (dsimp only; omega)), (by first | decide | omega | (dsimp only; omega))⟩ rfl (Nat.le_of_ble_eq_true rfl) dX1_gapPrice_10 (fun v9 h9 n9 hq _ => ?_) (fun E9 h9 n9 hq _ => ?_)
  rotate_left
  · obtain ⟨hc, rfl, hq2, hq3⟩ := hq
    exact ga_out X Y (fun x hx => (hxt x hx).elim) (by first | decide | omega | (dsimp only; omega)) (by first | decide | omega | (dsimp only; omega)) ⟨by unfold ct_gapPriceQ; rw [if_pos hp_1, if_neg hc]; decide, by unfold ct_gapPriceQ; rw [if_pos hp_1, if_neg hc]; rfl, Nat.le_trans hn1 hq3, by rw [hq2]; exact hF⟩
  obtain ⟨hp_2, rfl, hq2, hq3⟩ := hq
  rw [hq2, hq3]
  refine ga_widen (k2 := 2) (n2 := 12) (by first | decide | omega | (dsimp only; omega)) (by first | decide | omega | (dsimp only; omega)) ?_
  show ga Γ G _ _ _ _ 13 [(3, .ref (L 36 (cx dy))), (0, .ref (L 0 0)), (1, .int dy), (2, .int y)] ([])
  have rl_2 := cx_lt hp_2 (m := 4) (by decide) (by decide)
  refine ga_aload_n X 0 dX1_gapPrice_13 rfl rfl ?_
  refine ga_iload_n X 3 dX1_gapPrice_14 rfl rfl ?_
  refine ga_st (st' := .int (nI (cx y)) :: .ref (L 36 (cx dy)) :: []) (by rw [← (cx_e hp_2)]) ?_
  refine ga_callS X Y (cm_gapPrice _ X.tr G L N τ (cx dy) (cx y) (Nat.le_of_lt rl_1) (by omega) (hR _ rl_1) _ _ _ hP hn) wX1_249 ⟨Nat.le_of_ble_eq_true rfl, Nat.le_of_ble_eq_true rfl⟩ ⟨(by first | decide | omega | (dsimp only; omega)), (by first | decide | omega | (dsimp only; omega))⟩ rfl (Nat.le_of_ble_eq_true rfl) dX1_gapPrice_15 (fun v9 h n hq _ => ?_) (fun _ _ _ q _ => q.elim)
  obtain ⟨rfl, hq2, hq3⟩ := hq
  have hP := hP.temp (fun a ha => hq3 a (by omega))
  have hF := fun a (ha : a < n1) => (hq3 a (by omega)).trans (hF a ha)
  have hn := Nat.le_trans hn hq2
  have hn1 := Nat.le_trans hn1 hq2
  refine ga_widen (k2 := 111) (n2 := 474) (by first | decide | omega | (dsimp only; omega)) (by first | decide | omega | (dsimp only; omega)) ?_
  show ga Γ G _ _ _ _ 18 [(3, .ref (L 36 (cx dy))), (0, .ref (L 0 0)), (1, .int dy), (2, .int y)] (.int (cd_gapPrice τ N (cx dy) (cx y)) :: [])
  exact ga_iret X Y dX1_gapPrice_18 (by first | decide | omega | (dsimp only; omega)) (by first | decide | omega | (dsimp only; omega)) ⟨by unfold ct_gapPriceQ; rw [if_pos hp_1, if_pos hp_2], congrArg (fun z => some (Value.int z)) (show (cd_gapPrice τ N (cx dy) (cx y)) = cd_gapPriceQ τ N dy y from by unfold cd_gapPriceQ; exact (rfl).symm), hn1, hF⟩
def ct_billQ (τ : gm_S) (N : gc_L) (dy f : Int32) : Int32 := if 0 ≤ dy ∧ dy ≤ nI (N 16 0) - 1 then (if 0 ≤ f ∧ f ≤ 5 then 0 else 1) else 1
def cd_billQ (τ : gm_S) (N : gc_L) (dy f : Int32) : Int32 := cd_billOf τ N (cx dy) (cx f)
set_option maxHeartbeats 4000000 in
theorem cm_billQ (l : Launch) (hl : l.stackTraces = false) (G : ga_X) (L N : gc_L) (τ : gm_S) (dy f : Int32) (hR : ∀ d, d < N 16 0 → N 40 d ≠ 0) (hV : gc_V N τ) : gt_C l G yX1_bill cX1_bill 4 (some FieldType.int) ({ frames := 10, cells := 920, slots := 3900, locals := 220 } : Room) [.ref (L 0 0), .int dy, .int f] L N τ (ct_billQ τ N dy f) (some (.int (cd_billQ τ N dy f))) := by
  refine gt_start RX1 hl rfl (by decide) (Nat.le_of_ble_eq_true rfl) (fun Γ h1 h n0 n1 n e X Y hP hn hF hn1 hn01 hxt => ?_)
  subst e
  show ga Γ G h n 0 0 0 [(0, .ref (L 0 0)), (1, .int dy), (2, .int f)] []
  refine ga_aload_n X 0 dX1_bill_0 rfl rfl ?_
  refine ga_iload_n X 1 dX1_bill_1 rfl rfl ?_
  refine ga_callV X Y (cm_closed _ X.tr G L N τ dy _ _ _ hP hn) wX1_160 (ci := 0) rfl hP.r0 ⟨Nat.le_of_ble_eq_true rfl, Nat.le_of_ble_eq_true rfl⟩ ⟨(by first | decide | omega | (dsimp only; omega)), (by first | decide | omega | (dsimp only; omega))⟩ rfl (Nat.le_of_ble_eq_true rfl) dX1_bill_2 (fun v9 h9 n9 hq _ => ?_) (fun E9 h9 n9 hq _ => ?_)
  rotate_left
  · obtain ⟨hc, rfl, hq2, hq3⟩ := hq
    exact ga_out X Y (fun x hx => (hxt x hx).elim) (by first | decide | omega | (dsimp only; omega)) (by first | decide | omega | (dsimp only; omega)) ⟨by unfold ct_billQ; rw [if_neg hc]; decide, by unfold ct_billQ; rw [if_neg hc]; rfl, Nat.le_trans hn1 hq3, by rw [hq2]; exact hF⟩
  obtain ⟨hp_1, rfl, hq2, hq3⟩ := hq
  rw [hq2, hq3]
  refine ga_widen (k2 := 1) (n2 := 6) (by first | decide | omega | (dsimp only; omega)) (by first | decide | omega | (dsimp only; omega)) ?_
  show ga Γ G _ _ _ _ 5 [(0, .ref (L 0 0)), (1, .int dy), (2, .int f)] (.ref (L 36 (cx dy)) :: [])
  have hb_1 : N 16 0 < 2147483648 := Nat.lt_of_le_of_lt hP.n16 (by decide)
  obtain ⟨ec_1, rl_1⟩ := cx_cnt hp_1 hb_1
  refine ga_astore_n X [(3, .ref (L 36 (cx dy))), (0, .ref (L 0 0)), (1, .int dy), (2, .int f)] dX1_bill_5 rfl (by decide) rfl ?_
  refine ga_iload_n X 3 dX1_bill_6 rfl rfl ?_
  refine gp_callS X Y (cs_isFirm _ X.tr G f) wX1_37 ⟨rfl, rfl⟩ ⟨by decide, by decide⟩ ⟨(by first | decide | omega | (dsimp only; omega)), (by first | decide | omega | (dsimp only; omega))⟩ rfl (Nat.le_of_ble_eq_true rfl) dX1_bill_7 ?_
  refine ga_callS X Y (cm_place _ X.tr G (0 ≤ f ∧ f ≤ 5) _ _) wX1_41 ⟨Nat.le_of_ble_eq_true rfl, Nat.le_of_ble_eq_true rfl⟩ ⟨(by first | decide | omega | (dsimp only; omega)), (by first | decide | omega | (dsimp only; omega))⟩ rfl (Nat.le_of_ble_eq_true rfl) dX1_bill_10 (fun v9 h9 n9 hq _ => ?_) (fun E9 h9 n9 hq _ => ?_)
  rotate_left
  · obtain ⟨hc, rfl, hq2, hq3⟩ := hq
    exact ga_out X Y (fun x hx => (hxt x hx).elim) (by first | decide | omega | (dsimp only; omega)) (by first | decide | omega | (dsimp only; omega)) ⟨by unfold ct_billQ; rw [if_pos hp_1, if_neg hc]; decide, by unfold ct_billQ; rw [if_pos hp_1, if_neg hc]; rfl, Nat.le_trans hn1 hq3, by rw [hq2]; exact hF⟩
  obtain ⟨hp_2, rfl, hq2, hq3⟩ := hq
  rw [hq2, hq3]
  refine ga_widen (k2 := 2) (n2 := 12) (by first | decide | omega | (dsimp only; omega)) (by first | decide | omega | (dsimp only; omega)) ?_
  show ga Γ G _ _ _ _ 13 [(3, .ref (L 36 (cx dy))), (0, .ref (L 0 0)), (1, .int dy), (2, .int f)] ([])
  have rl_2 := cx_lt hp_2 (m := 6) (by decide) (by decide)
  refine ga_aload_n X 0 dX1_bill_13 rfl rfl ?_
  refine ga_iload_n X 3 dX1_bill_14 rfl rfl ?_
  refine ga_st (st' := .int (nI (cx f)) :: .ref (L 36 (cx dy)) :: []) (by rw [← (cx_e hp_2)]) ?_
  refine ga_callS X Y (cm_billOf _ X.tr G L N τ (cx dy) (cx f) (Nat.le_of_lt rl_1) (by omega) (hR _ rl_1) hV _ _ _ hP hn) wX1_179 ⟨Nat.le_of_ble_eq_true rfl, Nat.le_of_ble_eq_true rfl⟩ ⟨(by first | decide | omega | (dsimp only; omega)), (by first | decide | omega | (dsimp only; omega))⟩ rfl (Nat.le_of_ble_eq_true rfl) dX1_bill_15 (fun v9 h n hq _ => ?_) (fun _ _ _ q _ => q.elim)
  obtain ⟨rfl, hq2, hq3⟩ := hq
  have hP := hP.temp (fun a ha => hq3 a (by omega))
  have hF := fun a (ha : a < n1) => (hq3 a (by omega)).trans (hF a ha)
  have hn := Nat.le_trans hn hq2
  have hn1 := Nat.le_trans hn1 hq2
  refine ga_widen (k2 := 914) (n2 := 3868) (by first | decide | omega | (dsimp only; omega)) (by first | decide | omega | (dsimp only; omega)) ?_
  show ga Γ G _ _ _ _ 18 [(3, .ref (L 36 (cx dy))), (0, .ref (L 0 0)), (1, .int dy), (2, .int f)] (.int (cd_billOf τ N (cx dy) (cx f)) :: [])
  exact ga_iret X Y dX1_bill_18 (by first | decide | omega | (dsimp only; omega)) (by first | decide | omega | (dsimp only; omega)) ⟨by unfold ct_billQ; rw [if_pos hp_1, if_pos hp_2], congrArg (fun z => some (Value.int z)) (show (cd_billOf τ N (cx dy) (cx f)) = cd_billQ τ N dy f from by unfold cd_billQ; exact (rfl).symm), hn1, hF⟩
def ct_settledQ (τ : gm_S) (N : gc_L) (dy f : Int32) : Int32 := if 0 ≤ dy ∧ dy ≤ nI (N 16 0) - 1 then (if 0 ≤ f ∧ f ≤ 5 then 0 else 1) else 1
def cd_settledQ (τ : gm_S) (N : gc_L) (dy f : Int32) : Int32 := τ 5100 (6 * (cx dy) + (cx f))
set_option maxHeartbeats 4000000 in
theorem cm_settledQ (l : Launch) (hl : l.stackTraces = false) (G : ga_X) (L N : gc_L) (τ : gm_S) (dy f : Int32)  : gt_C l G yX1_settled cX1_settled 4 (some FieldType.int) ({ frames := 10, cells := 3, slots := 18, locals := 141 } : Room) [.ref (L 0 0), .int dy, .int f] L N τ (ct_settledQ τ N dy f) (some (.int (cd_settledQ τ N dy f))) := by
  refine gt_start RX1 hl rfl (by decide) (Nat.le_of_ble_eq_true rfl) (fun Γ h1 h n0 n1 n e X Y hP hn hF hn1 hn01 hxt => ?_)
  subst e
  show ga Γ G h n 0 0 0 [(0, .ref (L 0 0)), (1, .int dy), (2, .int f)] []
  refine ga_aload_n X 0 dX1_settled_0 rfl rfl ?_
  refine ga_iload_n X 1 dX1_settled_1 rfl rfl ?_
  refine ga_callV X Y (cm_closed _ X.tr G L N τ dy _ _ _ hP hn) wX1_160 (ci := 0) rfl hP.r0 ⟨Nat.le_of_ble_eq_true rfl, Nat.le_of_ble_eq_true rfl⟩ ⟨(by first | decide | omega | (dsimp only; omega)), (by first | decide | omega | (dsimp only; omega))⟩ rfl (Nat.le_of_ble_eq_true rfl) dX1_settled_2 (fun v9 h9 n9 hq _ => ?_) (fun E9 h9 n9 hq _ => ?_)
  rotate_left
  · obtain ⟨hc, rfl, hq2, hq3⟩ := hq
    exact ga_out X Y (fun x hx => (hxt x hx).elim) (by first | decide | omega | (dsimp only; omega)) (by first | decide | omega | (dsimp only; omega)) ⟨by unfold ct_settledQ; rw [if_neg hc]; decide, by unfold ct_settledQ; rw [if_neg hc]; rfl, Nat.le_trans hn1 hq3, by rw [hq2]; exact hF⟩
  obtain ⟨hp_1, rfl, hq2, hq3⟩ := hq
  rw [hq2, hq3]
  refine ga_widen (k2 := 1) (n2 := 6) (by first | decide | omega | (dsimp only; omega)) (by first | decide | omega | (dsimp only; omega)) ?_
  show ga Γ G _ _ _ _ 5 [(0, .ref (L 0 0)), (1, .int dy), (2, .int f)] (.ref (L 36 (cx dy)) :: [])
  have hb_1 : N 16 0 < 2147483648 := Nat.lt_of_le_of_lt hP.n16 (by decide)
  obtain ⟨ec_1, rl_1⟩ := cx_cnt hp_1 hb_1
  refine ga_astore_n X [(3, .ref (L 36 (cx dy))), (0, .ref (L 0 0)), (1, .int dy), (2, .int f)] dX1_settled_5 rfl (by decide) rfl ?_
  refine ga_iload_n X 3 dX1_settled_6 rfl rfl ?_
  refine gp_callS X Y (cs_isFirm _ X.tr G f) wX1_37 ⟨rfl, rfl⟩ ⟨by decide, by decide⟩ ⟨(by first | decide | omega | (dsimp only; omega)), (by first | decide | omega | (dsimp only; omega))⟩ rfl (Nat.le_of_ble_eq_true rfl) dX1_settled_7 ?_
  refine ga_callS X Y (cm_place _ X.tr G (0 ≤ f ∧ f ≤ 5) _ _) wX1_41 ⟨Nat.le_of_ble_eq_true rfl, Nat.le_of_ble_eq_true rfl⟩ ⟨(by first | decide | omega | (dsimp only; omega)), (by first | decide | omega | (dsimp only; omega))⟩ rfl (Nat.le_of_ble_eq_true rfl) dX1_settled_10 (fun v9 h9 n9 hq _ => ?_) (fun E9 h9 n9 hq _ => ?_)
  rotate_left
  · obtain ⟨hc, rfl, hq2, hq3⟩ := hq
    exact ga_out X Y (fun x hx => (hxt x hx).elim) (by first | decide | omega | (dsimp only; omega)) (by first | decide | omega | (dsimp only; omega)) ⟨by unfold ct_settledQ; rw [if_pos hp_1, if_neg hc]; decide, by unfold ct_settledQ; rw [if_pos hp_1, if_neg hc]; rfl, Nat.le_trans hn1 hq3, by rw [hq2]; exact hF⟩
  obtain ⟨hp_2, rfl, hq2, hq3⟩ := hq
  rw [hq2, hq3]
  refine ga_widen (k2 := 2) (n2 := 12) (by first | decide | omega | (dsimp only; omega)) (by first | decide | omega | (dsimp only; omega)) ?_
  show ga Γ G _ _ _ _ 13 [(3, .ref (L 36 (cx dy))), (0, .ref (L 0 0)), (1, .int dy), (2, .int f)] ([])
  have rl_2 := cx_lt hp_2 (m := 6) (by decide) (by decide)
  refine ga_aload_n X 0 dX1_settled_13 rfl rfl ?_
  refine ga_getN X in_X2 (ci := 1) rfl 9 (by decide) q161 rfl (hP.r36 (Nat.le_of_lt rl_1)) rfl dX1_settled_14 ?_
  refine ga_iload_n X 3 dX1_settled_17 rfl rfl ?_
  obtain ⟨f_1, hf_1, hv_1⟩ := hP.r51 (Nat.le_of_lt rl_1)
  refine ga_iald X (cx f) (cx_e hp_2) (by omega) (by decide) hf_1 dX1_settled_18 ?_
  refine ga_st (st' := .int (τ 5100 (6 * (cx dy) + (cx f))) :: []) (by rw [hv_1 (cx f) (by omega)]) ?_
  exact ga_iret X Y dX1_settled_19 (by first | decide | omega | (dsimp only; omega)) (by first | decide | omega | (dsimp only; omega)) ⟨by unfold ct_settledQ; rw [if_pos hp_1, if_pos hp_2], congrArg (fun z => some (Value.int z)) (show (τ 5100 (6 * (cx dy) + (cx f))) = cd_settledQ τ N dy f from by unfold cd_settledQ; exact (rfl).symm), hn1, hF⟩
def ct_planQ (τ : gm_S) (N : gc_L) (dy f z y : Int32) : Int32 := if (0 ≤ dy ∧ dy ≤ (nI (N 16 0))) ∧ ((0 ≤ f ∧ f ≤ 5) ∧ ((0 ≤ z ∧ z ≤ 2) ∧ (0 ≤ y ∧ y ≤ 3))) then 0 else 1
def cd_planQ (τ : gm_S) (N : gc_L) (dy f z y : Int32) : Int32 := if dy = (nI (N 16 0)) then cd_plan τ N (N 16 0) f z y else cd_plan τ N (cx dy) f z y
set_option maxHeartbeats 4000000 in
theorem cm_planQ (l : Launch) (hl : l.stackTraces = false) (G : ga_X) (L N : gc_L) (τ : gm_S) (dy f z y : Int32)  : gt_C l G yX1_plan cX1_plan 6 (some FieldType.int) ({ frames := 9, cells := 8, slots := 40, locals := 120 } : Room) [.ref (L 0 0), .int dy, .int f, .int z, .int y] L N τ (ct_planQ τ N dy f z y) (some (.int (cd_planQ τ N dy f z y))) := by
  refine gt_start RX1 hl rfl (by decide) (Nat.le_of_ble_eq_true rfl) (fun Γ h1 h n0 n1 n e X Y hP hn hF hn1 hn01 hxt => ?_)
  subst e
  show ga Γ G h n 0 0 0 [(0, .ref (L 0 0)), (1, .int dy), (2, .int f), (3, .int z), (4, .int y)] []
  refine ga_iload_n X 1 dX1_plan_0 rfl rfl ?_
  refine ga_iconst X (v := 0) dX1_plan_1 (by decide) ?_
  refine ga_aload_n X 0 dX1_plan_2 rfl rfl ?_
  refine ga_get X in_X1 (ci := 0) rfl 0 (by decide) q188 rfl hP.r0 rfl dX1_plan_3 ?_
  refine ga_callF X Y (jm_size _ X.tr G (L 16 0) (gc_e G L N 16 0) (N 16 0) (τ 1600 0) _ _ hP.r16) wX1_70 (ci := 11) rfl hP.r16 ⟨Nat.le_of_ble_eq_true rfl, Nat.le_of_ble_eq_true rfl⟩ ⟨(by first | decide | omega | (dsimp only; omega)), (by first | decide | omega | (dsimp only; omega))⟩ rfl (Nat.le_of_ble_eq_true rfl) dX1_plan_6 (fun v9 h9 n9 hq _ => ?_) (fun _ _ _ q _ => q.elim)
  obtain ⟨rfl, hq2, hq3⟩ := hq
  rw [hq2, hq3]
  show ga Γ G _ _ _ _ 11 [(0, .ref (L 0 0)), (1, .int dy), (2, .int f), (3, .int z), (4, .int y)] (.int (nI (N 16 0)) :: .int 0 :: .int dy :: [])
  refine gp_callS X Y (cs_isIn _ X.tr G dy 0 (nI (N 16 0))) wX1_46 ⟨rfl, rfl⟩ ⟨by decide, by decide⟩ ⟨(by first | decide | omega | (dsimp only; omega)), (by first | decide | omega | (dsimp only; omega))⟩ rfl (Nat.le_of_ble_eq_true rfl) dX1_plan_11 ?_
  have J44 : ∀ (v44 : Int32), v44 = (bI ((0 ≤ dy ∧ dy ≤ (nI (N 16 0))) ∧ ((0 ≤ f ∧ f ≤ 5) ∧ ((0 ≤ z ∧ z ≤ 2) ∧ (0 ≤ y ∧ y ≤ 3))))) → ga Γ G h n 0 0 44 [(0, .ref (L 0 0)), (1, .int dy), (2, .int f), (3, .int z), (4, .int y)] (.int v44 :: []) := by
    intro v44 ev44
    subst ev44
    refine ga_callS X Y (cm_place _ X.tr G ((0 ≤ dy ∧ dy ≤ (nI (N 16 0))) ∧ ((0 ≤ f ∧ f ≤ 5) ∧ ((0 ≤ z ∧ z ≤ 2) ∧ (0 ≤ y ∧ y ≤ 3)))) _ _) wX1_41 ⟨Nat.le_of_ble_eq_true rfl, Nat.le_of_ble_eq_true rfl⟩ ⟨(by first | decide | omega | (dsimp only; omega)), (by first | decide | omega | (dsimp only; omega))⟩ rfl (Nat.le_of_ble_eq_true rfl) dX1_plan_44 (fun v9 h9 n9 hq _ => ?_) (fun E9 h9 n9 hq _ => ?_)
    rotate_left
    · obtain ⟨hc, rfl, hq2, hq3⟩ := hq
      exact ga_out X Y (fun x hx => (hxt x hx).elim) (by first | decide | omega | (dsimp only; omega)) (by first | decide | omega | (dsimp only; omega)) ⟨by unfold ct_planQ; rw [if_neg hc]; decide, by unfold ct_planQ; rw [if_neg hc]; rfl, Nat.le_trans hn1 hq3, by rw [hq2]; exact hF⟩
    obtain ⟨hp_1, rfl, hq2, hq3⟩ := hq
    rw [hq2, hq3]
    refine ga_widen (k2 := 1) (n2 := 6) (by first | decide | omega | (dsimp only; omega)) (by first | decide | omega | (dsimp only; omega)) ?_
    show ga Γ G _ _ _ _ 47 [(0, .ref (L 0 0)), (1, .int dy), (2, .int f), (3, .int z), (4, .int y)] ([])
    have rl_1 := hp_1.1
    have rl_2 := cx_lt hp_1.2.1 (m := 6) (by decide) (by decide)
    have rl_3 := cx_lt hp_1.2.2.1 (m := 3) (by decide) (by decide)
    have rl_4 := cx_lt hp_1.2.2.2 (m := 4) (by decide) (by decide)
    refine ga_iload_n X 1 dX1_plan_47 rfl rfl ?_
    refine ga_aload_n X 0 dX1_plan_48 rfl rfl ?_
    refine ga_get X in_X1 (ci := 0) rfl 0 (by decide) q188 rfl hP.r0 rfl dX1_plan_49 ?_
    refine ga_callF X Y (jm_size _ X.tr G (L 16 0) (gc_e G L N 16 0) (N 16 0) (τ 1600 0) _ _ hP.r16) wX1_70 (ci := 11) rfl hP.r16 ⟨Nat.le_of_ble_eq_true rfl, Nat.le_of_ble_eq_true rfl⟩ ⟨(by first | decide | omega | (dsimp only; omega)), (by first | decide | omega | (dsimp only; omega))⟩ rfl (Nat.le_of_ble_eq_true rfl) dX1_plan_52 (fun v9 h9 n9 hq _ => ?_) (fun _ _ _ q _ => q.elim)
    obtain ⟨rfl, hq2, hq3⟩ := hq
    rw [hq2, hq3]
    show ga Γ G _ _ _ _ 57 [(0, .ref (L 0 0)), (1, .int dy), (2, .int f), (3, .int z), (4, .int y)] (.int (nI (N 16 0)) :: .int dy :: [])
    refine ga_icmp_ne X (tgt := 67) dX1_plan_57 (by decide) (fun c_57 => ?_) (fun c_57 => ?_)
    · have hb_1 : N 16 0 < 2147483648 := Nat.lt_of_le_of_lt hP.n16 (by decide)
      obtain ⟨ec_1, hd_1⟩ := cx_le rl_1 c_57 hb_1
      refine ga_aload_n X 0 dX1_plan_67 rfl rfl ?_
      refine ga_get X in_X1 (ci := 0) rfl 0 (by decide) q188 rfl hP.r0 rfl dX1_plan_68 ?_
      refine ga_iload_n X 1 dX1_plan_71 rfl rfl ?_
      have hj_1 : cx dy < N 16 0 := (by omega)
      obtain ⟨f_1, hE_1, hk_1, hb_1, hf_1, he_1⟩ := hP.r26  (by omega)
      refine ga_st (st' := .int (nI (cx dy)) :: .ref (L 16 0) :: []) (by rw [← ec_1]) ?_
      refine ga_callF X Y (jm_get _ X.tr G (L 16 0) (gc_e G L N 16 0) (N 16 0) (N 26 0) (cx dy) _ (τ 1600 0) f_1 _ _ hP.r16 hE_1 hj_1 hk_1 (by omega) (hf_1 (cx dy) hj_1)) wX1_91 (ci := 11) rfl hP.r16 ⟨Nat.le_of_ble_eq_true rfl, Nat.le_of_ble_eq_true rfl⟩ ⟨(by first | decide | omega | (dsimp only; omega)), (by first | decide | omega | (dsimp only; omega))⟩ rfl (Nat.le_of_ble_eq_true rfl) dX1_plan_72 (fun v9 h9 n9 hq _ => ?_) (fun _ _ _ q _ => q.elim)
      obtain ⟨rfl, hq2, hq3⟩ := hq
      rw [hq2, hq3]
      show ga Γ G _ _ _ _ 77 [(0, .ref (L 0 0)), (1, .int dy), (2, .int f), (3, .int z), (4, .int y)] (.ref (L 36 (1024 * 0 + (cx dy))) :: [])
      have hz_1 : 1024 * 0 + (cx dy) = cx dy := by omega
      refine ga_st (st' := .ref (L 36 (cx dy)) :: []) (by rw [hz_1]) ?_
      refine ga_cast X (ci := 1) rfl q129 (hP.r36 (Nat.le_of_lt hj_1)) dX1_plan_77 ?_
      refine ga_astore X [(5, .ref (L 36 (cx dy))), (0, .ref (L 0 0)), (1, .int dy), (2, .int f), (3, .int z), (4, .int y)] dX1_plan_80 (by decide) rfl ?_
      refine ga_aload X 0 dX1_plan_82 rfl ?_
      refine ga_iload_n X 3 dX1_plan_84 rfl rfl ?_
      refine ga_iload_n X 4 dX1_plan_85 rfl rfl ?_
      refine ga_iload X 5 dX1_plan_86 rfl ?_
      refine ga_callV X Y (cm_plan _ X.tr G L N τ (cx dy) f z y (Nat.le_of_lt hj_1) _ _ _ hP hn) wX1_243 (ci := 1) rfl (hP.r36 (Nat.le_of_lt hj_1)) ⟨Nat.le_of_ble_eq_true rfl, Nat.le_of_ble_eq_true rfl⟩ ⟨(by first | decide | omega | (dsimp only; omega)), (by first | decide | omega | (dsimp only; omega))⟩ rfl (Nat.le_of_ble_eq_true rfl) dX1_plan_88 (fun v9 h n hq _ => ?_) (fun _ _ _ q _ => q.elim)
      obtain ⟨rfl, hq2, hq3⟩ := hq
      have hP := hP.temp (fun a ha => hq3 a (by omega))
      have hF := fun a (ha : a < n1) => (hq3 a (by omega)).trans (hF a ha)
      have hn := Nat.le_trans hn hq2
      have hn1 := Nat.le_trans hn1 hq2
      refine ga_widen (k2 := 4) (n2 := 18) (by first | decide | omega | (dsimp only; omega)) (by first | decide | omega | (dsimp only; omega)) ?_
      show ga Γ G _ _ _ _ 91 [(5, .ref (L 36 (cx dy))), (0, .ref (L 0 0)), (1, .int dy), (2, .int f), (3, .int z), (4, .int y)] (.int (cd_plan τ N (cx dy) f z y) :: [])
      exact ga_iret X Y dX1_plan_91 (by first | decide | omega | (dsimp only; omega)) (by first | decide | omega | (dsimp only; omega)) ⟨by unfold ct_planQ; rw [if_pos hp_1], congrArg (fun z => some (Value.int z)) (show (cd_plan τ N (cx dy) f z y) = cd_planQ τ N dy f z y from by unfold cd_planQ; exact ((if_neg c_57)).symm), hn1, hF⟩
    · refine ga_aload_n X 0 dX1_plan_60 rfl rfl ?_
      refine ga_get X in_X1 (ci := 0) rfl 1 (by decide) q189 rfl hP.r0 rfl dX1_plan_61 ?_
      refine ga_goto X (tgt := 80) dX1_plan_64 (by decide) ?_
      refine ga_astore X [(5, .ref (L 36 (N 16 0))), (0, .ref (L 0 0)), (1, .int dy), (2, .int f), (3, .int z), (4, .int y)] dX1_plan_80 (by decide) rfl ?_
      refine ga_aload X 0 dX1_plan_82 rfl ?_
      refine ga_iload_n X 3 dX1_plan_84 rfl rfl ?_
      refine ga_iload_n X 4 dX1_plan_85 rfl rfl ?_
      refine ga_iload X 5 dX1_plan_86 rfl ?_
      refine ga_callV X Y (cm_plan _ X.tr G L N τ (N 16 0) f z y (Nat.le_refl _) _ _ _ hP hn) wX1_243 (ci := 1) rfl (hP.r36 (Nat.le_refl _)) ⟨Nat.le_of_ble_eq_true rfl, Nat.le_of_ble_eq_true rfl⟩ ⟨(by first | decide | omega | (dsimp only; omega)), (by first | decide | omega | (dsimp only; omega))⟩ rfl (Nat.le_of_ble_eq_true rfl) dX1_plan_88 (fun v9 h n hq _ => ?_) (fun _ _ _ q _ => q.elim)
      obtain ⟨rfl, hq2, hq3⟩ := hq
      have hP := hP.temp (fun a ha => hq3 a (by omega))
      have hF := fun a (ha : a < n1) => (hq3 a (by omega)).trans (hF a ha)
      have hn := Nat.le_trans hn hq2
      have hn1 := Nat.le_trans hn1 hq2
      refine ga_widen (k2 := 4) (n2 := 18) (by first | decide | omega | (dsimp only; omega)) (by first | decide | omega | (dsimp only; omega)) ?_
      show ga Γ G _ _ _ _ 91 [(5, .ref (L 36 (N 16 0))), (0, .ref (L 0 0)), (1, .int dy), (2, .int f), (3, .int z), (4, .int y)] (.int (cd_plan τ N (N 16 0) f z y) :: [])
      exact ga_iret X Y dX1_plan_91 (by first | decide | omega | (dsimp only; omega)) (by first | decide | omega | (dsimp only; omega)) ⟨by unfold ct_planQ; rw [if_pos hp_1], congrArg (fun z => some (Value.int z)) (show (cd_plan τ N (N 16 0) f z y) = cd_planQ τ N dy f z y from by unfold cd_planQ; exact ((if_pos c_57)).symm), hn1, hF⟩
  refine ga_ifb_eq X (tgt := 43) dX1_plan_14 (by decide) (fun c_14 => ?_) (fun c_14 => ?_)
  · refine ga_iconst X (v := 0) dX1_plan_43 (by decide) ?_
    exact J44 _ ((bI_f (fun hh => c_14 hh.1)).symm)
  · refine ga_iload_n X 2 dX1_plan_17 rfl rfl ?_
    refine gp_callS X Y (cs_isFirm _ X.tr G f) wX1_37 ⟨rfl, rfl⟩ ⟨by decide, by decide⟩ ⟨(by first | decide | omega | (dsimp only; omega)), (by first | decide | omega | (dsimp only; omega))⟩ rfl (Nat.le_of_ble_eq_true rfl) dX1_plan_18 ?_
    refine ga_ifb_eq X (tgt := 43) dX1_plan_21 (by decide) (fun c_21 => ?_) (fun c_21 => ?_)
    · refine ga_iconst X (v := 0) dX1_plan_43 (by decide) ?_
      exact J44 _ ((bI_f (fun hh => (fun hh => c_21 hh.1) hh.2)).symm)
    · refine ga_iload_n X 3 dX1_plan_24 rfl rfl ?_
      refine gp_callS X Y (cs_isZone _ X.tr G z) wX1_61 ⟨rfl, rfl⟩ ⟨by decide, by decide⟩ ⟨(by first | decide | omega | (dsimp only; omega)), (by first | decide | omega | (dsimp only; omega))⟩ rfl (Nat.le_of_ble_eq_true rfl) dX1_plan_25 ?_
      refine ga_ifb_eq X (tgt := 43) dX1_plan_28 (by decide) (fun c_28 => ?_) (fun c_28 => ?_)
      · refine ga_iconst X (v := 0) dX1_plan_43 (by decide) ?_
        exact J44 _ ((bI_f (fun hh => (fun hh => (fun hh => c_28 hh.1) hh.2) hh.2)).symm)
      · refine ga_iload X 4 dX1_plan_31 rfl ?_
        refine gp_callS X Y (cs_isHour _ X.tr G y) wX1_64 ⟨rfl, rfl⟩ ⟨by decide, by decide⟩ ⟨(by first | decide | omega | (dsimp only; omega)), (by first | decide | omega | (dsimp only; omega))⟩ rfl (Nat.le_of_ble_eq_true rfl) dX1_plan_33 ?_
        refine ga_ifb_eq X (tgt := 43) dX1_plan_36 (by decide) (fun c_36 => ?_) (fun c_36 => ?_)
        · refine ga_iconst X (v := 0) dX1_plan_43 (by decide) ?_
          exact J44 _ ((bI_f (fun hh => (fun hh => (fun hh => c_36 hh.2) hh.2) hh.2)).symm)
        · refine ga_iconst X (v := 1) dX1_plan_39 (by decide) ?_
          refine ga_goto X (tgt := 44) dX1_plan_40 (by decide) ?_
          exact J44 _ ((bI_t ⟨c_14, ⟨c_21, ⟨c_28, c_36⟩⟩⟩).symm)
