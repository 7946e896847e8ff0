set_option maxRecDepth 100000
def ct_bid (τ : gm_S) (N : gc_L) (f z y b p u : Int32) : Int32 := if (0 ≤ f ∧ f ≤ 5) ∧ ((0 ≤ z ∧ z ≤ 2) ∧ (0 ≤ y ∧ y ≤ 3)) then (if (0 ≤ p ∧ p ≤ 200) ∧ (1 ≤ u ∧ u ≤ 10) then (if ((τ 600 (cx f)) = 0) ∧ ((N 40 (N 16 0) = 0) ∧ (¬ (40 ≤ (nI (N 10 (N 16 0)))))) then 0 else 3) else 2) else 1
def cd_bid (τ : gm_S) (N : gc_L) (f z y b p u : Int32) : Int32 := nI (N 10 (N 16 0))
def cu_bid (τ : gm_S) (N : gc_L) (f z y b p u : Int32) : gm_S := up2 (up2 (up2 (up2 (up2 (up2 (up2 (up2 τ 3000 (1024 * (N 16 0) + N 10 (N 16 0)) f) 3001 (1024 * (N 16 0) + N 10 (N 16 0)) z) 3002 (1024 * (N 16 0) + N 10 (N 16 0)) y) 3003 (1024 * (N 16 0) + N 10 (N 16 0)) b) 3004 (1024 * (N 16 0) + N 10 (N 16 0)) p) 3005 (1024 * (N 16 0) + N 10 (N 16 0)) u) 3006 (1024 * (N 16 0) + N 10 (N 16 0)) 0) (100 * 10) (N 16 0) (τ (100 * 10) (N 16 0) + 1)
def cn_bid (τ : gm_S) (N : gc_L) (f z y b p u : Int32) : gc_L := up3 (up3 N 10 (N 16 0) (N 10 (N 16 0) + 1)) (10 + 10) (N 16 0) (gc_cap (N 10 (N 16 0)) (N (10 + 10) (N 16 0)))
set_option maxHeartbeats 4000000 in
theorem cm_bid (l : Launch) (hl : l.stackTraces = false) (G : ga_X) (L N : gc_L) (τ : gm_S) (f z y b p u : Int32) (hb : b = 0 ∨ b = 1) : gn_C l G yX1_bid cX1_bid 7 (some FieldType.int) ({ frames := 9, cells := 6, slots := 960, locals := 400 } : Room) [.ref (L 0 0), .int f, .int z, .int y, .int b, .int p, .int u] L N τ (ct_bid τ N f z y b p u) (some (.int (cd_bid τ N f z y b p u))) (cn_bid τ N f z y b p u) (cu_bid τ N f z y b p u) := by
  refine gn_start RX1 hl rfl (by decide) (Nat.le_of_ble_eq_true rfl) (fun Γ h1 h n0 n1 n e X Y hP hn hF hn1 hn01 hxt => ?_)
  subst e
  show ga Γ G h n 0 0 0 [(0, .ref (L 0 0)), (1, .int f), (2, .int z), (3, .int y), (4, .int b), (5, .int p), (6, .int u)] []
  refine ga_iload_n X 1 dX1_bid_0 rfl rfl ?_
  refine gp_callS X Y (cs_isFirm _ X.tr G f) wX1_37 ⟨rfl, rfl⟩ ⟨by decide, by decide⟩ ⟨(by first | decide | omega | (dsimp only; omega)), (by first | decide | omega | (dsimp only; omega))⟩ rfl (Nat.le_of_ble_eq_true rfl) dX1_bid_1 ?_
  have J26 : ∀ (v26 : Int32), v26 = (bI ((0 ≤ f ∧ f ≤ 5) ∧ ((0 ≤ z ∧ z ≤ 2) ∧ (0 ≤ y ∧ y ≤ 3)))) → ga Γ G h n 0 0 26 [(0, .ref (L 0 0)), (1, .int f), (2, .int z), (3, .int y), (4, .int b), (5, .int p), (6, .int u)] (.int v26 :: []) := by
    intro v26 ev26
    subst ev26
    refine ga_callS X Y (cm_place _ X.tr G ((0 ≤ f ∧ f ≤ 5) ∧ ((0 ≤ z ∧ z ≤ 2) ∧ (0 ≤ y ∧ y ≤ 3))) _ _) wX1_41 ⟨Nat.le_of_ble_eq_true rfl, Nat.le_of_ble_eq_true rfl⟩ ⟨(by first | decide | omega | (dsimp only; omega)), (by first | decide | omega | (dsimp only; omega))⟩ rfl (Nat.le_of_ble_eq_true rfl) dX1_bid_26 (fun v9 h9 n9 hq _ => ?_) (fun E9 h9 n9 hq _ => ?_)
    rotate_left
    · obtain ⟨hc, rfl, hq2, hq3⟩ := hq
      exact ga_out X Y (fun x hx => (hxt x hx).elim) (by first | decide | omega | (dsimp only; omega)) (by first | decide | omega | (dsimp only; omega)) ⟨by unfold ct_bid; rw [if_neg hc]; decide, by unfold ct_bid; rw [if_neg hc]; rfl, Nat.le_trans hn1 hq3, by rw [hq2]; exact hF⟩
    obtain ⟨hp_1, rfl, hq2, hq3⟩ := hq
    rw [hq2, hq3]
    refine ga_widen (k2 := 1) (n2 := 6) (by first | decide | omega | (dsimp only; omega)) (by first | decide | omega | (dsimp only; omega)) ?_
    show ga Γ G _ _ _ _ 29 [(0, .ref (L 0 0)), (1, .int f), (2, .int z), (3, .int y), (4, .int b), (5, .int p), (6, .int u)] ([])
    have rl_1 := cx_lt hp_1.1 (m := 6) (by decide) (by decide)
    refine ga_iload X 5 dX1_bid_29 rfl ?_
    refine ga_iconst X (v := 0) dX1_bid_31 (by decide) ?_
    refine ga_sipush X (v := 200) dX1_bid_32 (by decide) ?_
    refine gp_callS X Y (cs_isIn _ X.tr G p 0 200) wX1_46 ⟨rfl, rfl⟩ ⟨by decide, by decide⟩ ⟨(by first | decide | omega | (dsimp only; omega)), (by first | decide | omega | (dsimp only; omega))⟩ rfl (Nat.le_of_ble_eq_true rfl) dX1_bid_35 ?_
    have J57 : ∀ (v57 : Int32), v57 = (bI ((0 ≤ p ∧ p ≤ 200) ∧ (1 ≤ u ∧ u ≤ 10))) → ga Γ G h n 1 6 57 [(0, .ref (L 0 0)), (1, .int f), (2, .int z), (3, .int y), (4, .int b), (5, .int p), (6, .int u)] (.int v57 :: []) := by
      intro v57 ev57
      subst ev57
      refine ga_callS X Y (cm_check _ X.tr G ((0 ≤ p ∧ p ≤ 200) ∧ (1 ≤ u ∧ u ≤ 10)) _ _) wX1_50 ⟨Nat.le_of_ble_eq_true rfl, Nat.le_of_ble_eq_true rfl⟩ ⟨(by first | decide | omega | (dsimp only; omega)), (by first | decide | omega | (dsimp only; omega))⟩ rfl (Nat.le_of_ble_eq_true rfl) dX1_bid_57 (fun v9 h9 n9 hq _ => ?_) (fun E9 h9 n9 hq _ => ?_)
      rotate_left
      · obtain ⟨hc, rfl, hq2, hq3⟩ := hq
        exact ga_out X Y (fun x hx => (hxt x hx).elim) (by first | decide | omega | (dsimp only; omega)) (by first | decide | omega | (dsimp only; omega)) ⟨by unfold ct_bid; rw [if_pos hp_1, if_neg hc]; decide, by unfold ct_bid; rw [if_pos hp_1, if_neg hc]; rfl, Nat.le_trans hn1 hq3, by rw [hq2]; exact hF⟩
      obtain ⟨hp_2, rfl, hq2, hq3⟩ := hq
      rw [hq2, hq3]
      refine ga_widen (k2 := 2) (n2 := 12) (by first | decide | omega | (dsimp only; omega)) (by first | decide | omega | (dsimp only; omega)) ?_
      show ga Γ G _ _ _ _ 60 [(0, .ref (L 0 0)), (1, .int f), (2, .int z), (3, .int y), (4, .int b), (5, .int p), (6, .int u)] ([])
      refine ga_aload_n X 0 dX1_bid_60 rfl rfl ?_
      refine ga_get X in_X1 (ci := 0) rfl 5 (by decide) q193 rfl hP.r0 rfl dX1_bid_61 ?_
      refine ga_iload_n X 1 dX1_bid_64 rfl rfl ?_
      refine ga_zald X (cx f) (cx_e hp_1.1) (by omega) (by decide) hP.r6.1 dX1_bid_65 ?_
      have J101 : ∀ (v101 : Int32), v101 = (bI (((τ 600 (cx f)) = 0) ∧ ((N 40 (N 16 0) = 0) ∧ (¬ (40 ≤ (nI (N 10 (N 16 0)))))))) → ga Γ G h n 2 12 101 [(0, .ref (L 0 0)), (1, .int f), (2, .int z), (3, .int y), (4, .int b), (5, .int p), (6, .int u)] (.int v101 :: []) := by
        intro v101 ev101
        subst ev101
        refine ga_callS X Y (cm_allow _ X.tr G (((τ 600 (cx f)) = 0) ∧ ((N 40 (N 16 0) = 0) ∧ (¬ (40 ≤ (nI (N 10 (N 16 0))))))) _ _) wX1_54 ⟨Nat.le_of_ble_eq_true rfl, Nat.le_of_ble_eq_true rfl⟩ ⟨(by first | decide | omega | (dsimp only; omega)), (by first | decide | omega | (dsimp only; omega))⟩ rfl (Nat.le_of_ble_eq_true rfl) dX1_bid_101 (fun v9 h9 n9 hq _ => ?_) (fun E9 h9 n9 hq _ => ?_)
        rotate_left
        · obtain ⟨hc, rfl, hq2, hq3⟩ := hq
          exact ga_out X Y (fun x hx => (hxt x hx).elim) (by first | decide | omega | (dsimp only; omega)) (by first | decide | omega | (dsimp only; omega)) ⟨by unfold ct_bid; rw [if_pos hp_1, if_pos hp_2, if_neg hc]; decide, by unfold ct_bid; rw [if_pos hp_1, if_pos hp_2, if_neg hc]; rfl, Nat.le_trans hn1 hq3, by rw [hq2]; exact hF⟩
        obtain ⟨hp_3, rfl, hq2, hq3⟩ := hq
        rw [hq2, hq3]
        refine ga_widen (k2 := 3) (n2 := 18) (by first | decide | omega | (dsimp only; omega)) (by first | decide | omega | (dsimp only; omega)) ?_
        show ga Γ G _ _ _ _ 104 [(0, .ref (L 0 0)), (1, .int f), (2, .int z), (3, .int y), (4, .int b), (5, .int p), (6, .int u)] ([])
        refine ga_aload_n X 0 dX1_bid_104 rfl rfl ?_
        refine ga_get X in_X1 (ci := 0) rfl 1 (by decide) q189 rfl hP.r0 rfl dX1_bid_105 ?_
        refine ga_getN X in_X2 (ci := 1) rfl 0 (by decide) q144 rfl (hP.r36 (Nat.le_refl _)) rfl dX1_bid_108 ?_
        refine ga_new X Y in_X4 tyX4 tyX4_ok (ci := 3) rfl q402 q403 q69 (fs := [.int 0, .int 0, .int 0, .int 0, .int 0, .int 0, .int 0]) rfl (by first | decide | omega | (dsimp only; omega)) (by first | decide | omega | (dsimp only; omega)) dX1_bid_111 ?_
        refine ga_widen (k2 := 4) (n2 := 25) (by first | decide | omega | (dsimp only; omega)) (by first | decide | omega | (dsimp only; omega)) ?_
        refine gq_al (P := fun t h n => ga Γ G h n 4 25 114 [(0, .ref (L 0 0)), (1, .int f), (2, .int z), (3, .int y), (4, .int b), (5, .int p), (6, .int u)] (.ref t :: .ref (L 10 (N 16 0)) :: [])) hP hn hF hn1 (fun t114 h n hP hn hF hn1 hk ht_t114 hl_t114 ha_t114 hb_t114 he_t114 => ?_)
        refine ga_dup X dX1_bid_114 rfl ?_
        refine ga_iload_n X 1 dX1_bid_115 rfl rfl ?_
        refine ga_iload_n X 2 dX1_bid_116 rfl rfl ?_
        refine ga_iload_n X 3 dX1_bid_117 rfl rfl ?_
        refine ga_iload X 4 dX1_bid_118 rfl ?_
        refine ga_iload X 5 dX1_bid_120 rfl ?_
        refine ga_iload X 6 dX1_bid_122 rfl ?_
        refine ga_callI X Y (ci_X4 _ X.tr G t114 f z y b p u _ _ ht_t114 (Nat.le_trans hP.G hb_t114) hb) wX1_78 ⟨Nat.le_of_ble_eq_true rfl, Nat.le_of_ble_eq_true rfl⟩ ⟨(by first | decide | omega | (dsimp only; omega)), (by first | decide | omega | (dsimp only; omega))⟩ rfl (Nat.le_of_ble_eq_true rfl) dX1_bid_124 (fun v9 h9 n9 hq _ => ?_)
        obtain ⟨rfl, hq2, hq3⟩ := hq
        rw [hq2, hq3]
        refine ga_widen (k2 := 4) (n2 := 25) (by first | decide | omega | (dsimp only; omega)) (by first | decide | omega | (dsimp only; omega)) ?_
        show ga Γ G _ _ _ _ 127 [(0, .ref (L 0 0)), (1, .int f), (2, .int z), (3, .int y), (4, .int b), (5, .int p), (6, .int u)] (.ref t114 :: .ref (L 10 (N 16 0)) :: [])
        refine gq_up (P := fun h => ga Γ G h n 4 25 127 [(0, .ref (L 0 0)), (1, .int f), (2, .int z), (3, .int y), (4, .int b), (5, .int p), (6, .int u)] (.ref t114 :: .ref (L 10 (N 16 0)) :: [])) hP hF hb_t114 ha_t114 (fun h hP hF ht_t114 hk => ?_)
        have hF : gc_V1 L N n0 n1 h1 h := gc_V1.of hF
        refine gn_addrow (kl := 10) (τ' := up2 (up2 (up2 (up2 (up2 (up2 (up2 τ 3000 (1024 * (N 16 0) + N 10 (N 16 0)) f) 3001 (1024 * (N 16 0) + N 10 (N 16 0)) z) 3002 (1024 * (N 16 0) + N 10 (N 16 0)) y) 3003 (1024 * (N 16 0) + N 10 (N 16 0)) b) 3004 (1024 * (N 16 0) + N 10 (N 16 0)) p) 3005 (1024 * (N 16 0) + N 10 (N 16 0)) u) 3006 (1024 * (N 16 0) + N 10 (N 16 0)) 0) (N1 := N) X Y hP hn hF.1 (by omega) wX1_81 (Or.inl rfl) (Nat.le_refl _) (Nat.lt_of_not_le fun z => hp_3.2.2 ((nI_leI (a := 40) (by omega) (by have := gc_mx_P (d := N 16 0) hP (kl := 10) (by omega); omega)).mpr z)) (fun _ _ _ _ => rfl) (fun _ _ => ⟨rfl, rfl⟩) ht_t114 hb_t114 hl_t114 (Or.inl ⟨3, _, _, ht_t114, rfl, Or.inr q1972⟩) (fun key j hc => (up2_ne (by omega)).trans ((up2_ne (by omega)).trans ((up2_ne (by omega)).trans ((up2_ne (by omega)).trans ((up2_ne (by omega)).trans ((up2_ne (by omega)).trans (up2_ne (by omega)))))))) (fun L2 N2 _ _ _ _ => by simp [gc_ok, up2, upd]) ⟨Nat.le_of_ble_eq_true rfl, Nat.le_of_ble_eq_true rfl⟩ ⟨(by first | decide | omega | (dsimp only; omega)), (by first | decide | omega | (dsimp only; omega))⟩ (Nat.le_of_ble_eq_true rfl) dX1_bid_127 (fun L2 h n k2 k3 k4 k5 k6 => ?_)
        obtain ⟨t9, ht9⟩ : ∃ t9 : gm_S, t9 = up2 (up2 (up2 (up2 (up2 (up2 (up2 (up2 τ 3000 (1024 * (N 16 0) + N 10 (N 16 0)) f) 3001 (1024 * (N 16 0) + N 10 (N 16 0)) z) 3002 (1024 * (N 16 0) + N 10 (N 16 0)) y) 3003 (1024 * (N 16 0) + N 10 (N 16 0)) b) 3004 (1024 * (N 16 0) + N 10 (N 16 0)) p) 3005 (1024 * (N 16 0) + N 10 (N 16 0)) u) 3006 (1024 * (N 16 0) + N 10 (N 16 0)) 0) (100 * 10) (N 16 0) (τ (100 * 10) (N 16 0) + 1) := ⟨_, rfl⟩
        obtain ⟨N2, hN2⟩ : ∃ N2 : gc_L, N2 = up3 (up3 N 10 (N 16 0) (N 10 (N 16 0) + 1)) (10 + 10) (N 16 0) (gc_cap (N 10 (N 16 0)) (N (10 + 10) (N 16 0))) := ⟨_, rfl⟩
        rw [← ht9, ← hN2] at k2
        rw [← hN2] at k3
        have hP := k2
        have e16 : N2 16 0 = N 16 0 := by rw [hN2]; exact (up3_n (by omega)).trans (up3_n (by omega))
        have ekl : N2 10 (N 16 0) = N 10 (N 16 0) + 1 := by rw [hN2]; exact (up3_n (by omega)).trans up3_s
        refine ga_lv (lv' := [(0, .ref (L2 0 0)), (1, .int f), (2, .int z), (3, .int y), (4, .int b), (5, .int p), (6, .int u)]) (by rw [k6 0 0 rfl (by omega)]) ?_
        refine ga_pop X dX1_bid_132 rfl ?_
        refine ga_aload_n X 0 dX1_bid_133 rfl rfl ?_
        refine ga_get X in_X1 (ci := 0) rfl 1 (by decide) q189 rfl hP.r0 rfl dX1_bid_134 ?_
        refine ga_getN X in_X2 (ci := 1) rfl 0 (by decide) q144 rfl (hP.r36 (Nat.le_refl _)) rfl dX1_bid_137 ?_
        refine ga_callF X Y (jm_size _ X.tr G (L2 10 (N2 16 0)) (gc_e G L2 N2 10 (N2 16 0)) (N2 10 (N2 16 0)) (t9 1000 (N2 16 0)) _ _ (hP.r10 (Nat.le_refl _))) wX1_70 (ci := 11) rfl (hP.r10 (Nat.le_refl _)) ⟨Nat.le_of_ble_eq_true rfl, Nat.le_of_ble_eq_true rfl⟩ ⟨(by first | decide | omega | (dsimp only; omega)), (by first | decide | omega | (dsimp only; omega))⟩ rfl (Nat.le_of_ble_eq_true rfl) dX1_bid_140 (fun v9 h9 n9 hq _ => ?_) (fun _ _ _ q _ => q.elim)
        obtain ⟨rfl, hq2, hq3⟩ := hq
        rw [hq2, hq3]
        show ga Γ G _ _ _ _ 145 [(0, .ref (L2 0 0)), (1, .int f), (2, .int z), (3, .int y), (4, .int b), (5, .int p), (6, .int u)] (.int (nI (N2 10 (N2 16 0))) :: [])
        refine ga_iconst X (v := 1) dX1_bid_145 (by decide) ?_
        refine ga_isub X dX1_bid_146 ?_
        exact ga_iret X Y dX1_bid_147 (by first | decide | omega | (dsimp only; omega)) (by first | decide | omega | (dsimp only; omega)) ⟨by unfold ct_bid; rw [if_pos hp_1, if_pos hp_2, if_pos hp_3], congrArg (fun z => some (Value.int z)) (show (nI (N2 10 (N2 16 0))) - 1 = cd_bid τ N f z y b p u from by unfold cd_bid; rw [e16, ekl, nI_pred]), by omega, k4, L2, (show gc_P G L2 (cn_bid τ N f z y b p u) (cu_bid τ N f z y b p u) n h by unfold cu_bid cn_bid; rw [← ht9, ← hN2]; exact hP), (show gc_G L N L2 (cn_bid τ N f z y b p u) n1 by unfold cn_bid; rw [← hN2]; exact hn01 ▸ k3), k6 0 0 rfl (by omega)⟩
      refine ga_if_ne X (tgt := 100) dX1_bid_66 (by decide) (fun c_66 => ?_) (fun c_66 => ?_)
      · refine ga_iconst X (v := 0) dX1_bid_100 (by decide) ?_
        exact J101 _ ((bI_f (fun hh => c_66 hh.1)).symm)
      · refine ga_aload_n X 0 dX1_bid_69 rfl rfl ?_
        refine ga_get X in_X1 (ci := 0) rfl 1 (by decide) q189 rfl hP.r0 rfl dX1_bid_70 ?_
        refine ga_getN X in_X2 (ci := 1) rfl 6 (by decide) q155 rfl (hP.r36 (Nat.le_refl _)) rfl dX1_bid_73 ?_
        refine ga_ifnonnullI X (tgt := 100) dX1_bid_76 (by decide) (fun c_76 => ?_) (fun c_76 => ?_)
        · refine ga_iconst X (v := 0) dX1_bid_100 (by decide) ?_
          exact J101 _ ((bI_f (fun hh => (fun hh => c_76 hh.1) hh.2)).symm)
        · refine ga_aload_n X 0 dX1_bid_79 rfl rfl ?_
          refine ga_get X in_X1 (ci := 0) rfl 1 (by decide) q189 rfl hP.r0 rfl dX1_bid_80 ?_
          refine ga_getN X in_X2 (ci := 1) rfl 0 (by decide) q144 rfl (hP.r36 (Nat.le_refl _)) rfl dX1_bid_83 ?_
          refine ga_callF X Y (jm_size _ X.tr G (L 10 (N 16 0)) (gc_e G L N 10 (N 16 0)) (N 10 (N 16 0)) (τ 1000 (N 16 0)) _ _ (hP.r10 (Nat.le_refl _))) wX1_70 (ci := 11) rfl (hP.r10 (Nat.le_refl _)) ⟨Nat.le_of_ble_eq_true rfl, Nat.le_of_ble_eq_true rfl⟩ ⟨(by first | decide | omega | (dsimp only; omega)), (by first | decide | omega | (dsimp only; omega))⟩ rfl (Nat.le_of_ble_eq_true rfl) dX1_bid_86 (fun v9 h9 n9 hq _ => ?_) (fun _ _ _ q _ => q.elim)
          obtain ⟨rfl, hq2, hq3⟩ := hq
          rw [hq2, hq3]
          show ga Γ G _ _ _ _ 91 [(0, .ref (L 0 0)), (1, .int f), (2, .int z), (3, .int y), (4, .int b), (5, .int p), (6, .int u)] (.int (nI (N 10 (N 16 0))) :: [])
          refine ga_bipush X (v := 40) dX1_bid_91 (by decide) ?_
          refine ga_icmp_ge X (tgt := 100) dX1_bid_93 (by decide) (fun c_93 => ?_) (fun c_93 => ?_)
          · refine ga_iconst X (v := 0) dX1_bid_100 (by decide) ?_
            exact J101 _ ((bI_f (fun hh => (fun hh => (fun hh => hh c_93) hh.2) hh.2)).symm)
          · refine ga_iconst X (v := 1) dX1_bid_96 (by decide) ?_
            refine ga_goto X (tgt := 101) dX1_bid_97 (by decide) ?_
            exact J101 _ ((bI_t ⟨c_66, ⟨c_76, c_93⟩⟩).symm)
    refine ga_ifb_eq X (tgt := 56) dX1_bid_38 (by decide) (fun c_38 => ?_) (fun c_38 => ?_)
    · refine ga_iconst X (v := 0) dX1_bid_56 (by decide) ?_
      exact J57 _ ((bI_f (fun hh => c_38 hh.1)).symm)
    · refine ga_iload X 6 dX1_bid_41 rfl ?_
      refine ga_iconst X (v := 1) dX1_bid_43 (by decide) ?_
      refine ga_bipush X (v := 10) dX1_bid_44 (by decide) ?_
      refine gp_callS X Y (cs_isIn _ X.tr G u 1 10) wX1_46 ⟨rfl, rfl⟩ ⟨by decide, by decide⟩ ⟨(by first | decide | omega | (dsimp only; omega)), (by first | decide | omega | (dsimp only; omega))⟩ rfl (Nat.le_of_ble_eq_true rfl) dX1_bid_46 ?_
      refine ga_ifb_eq X (tgt := 56) dX1_bid_49 (by decide) (fun c_49 => ?_) (fun c_49 => ?_)
      · refine ga_iconst X (v := 0) dX1_bid_56 (by decide) ?_
        exact J57 _ ((bI_f (fun hh => c_49 hh.2)).symm)
      · refine ga_iconst X (v := 1) dX1_bid_52 (by decide) ?_
        refine ga_goto X (tgt := 57) dX1_bid_53 (by decide) ?_
        exact J57 _ ((bI_t ⟨c_38, c_49⟩).symm)
  refine ga_ifb_eq X (tgt := 25) dX1_bid_4 (by decide) (fun c_4 => ?_) (fun c_4 => ?_)
  · refine ga_iconst X (v := 0) dX1_bid_25 (by decide) ?_
    exact J26 _ ((bI_f (fun hh => c_4 hh.1)).symm)
  · refine ga_iload_n X 2 dX1_bid_7 rfl rfl ?_
    refine gp_callS X Y (cs_isZone _ X.tr G z) wX1_61 ⟨rfl, rfl⟩ ⟨by decide, by decide⟩ ⟨(by first | decide | omega | (dsimp only; omega)), (by first | decide | omega | (dsimp only; omega))⟩ rfl (Nat.le_of_ble_eq_true rfl) dX1_bid_8 ?_
    refine ga_ifb_eq X (tgt := 25) dX1_bid_11 (by decide) (fun c_11 => ?_) (fun c_11 => ?_)
    · refine ga_iconst X (v := 0) dX1_bid_25 (by decide) ?_
      exact J26 _ ((bI_f (fun hh => (fun hh => c_11 hh.1) hh.2)).symm)
    · refine ga_iload_n X 3 dX1_bid_14 rfl rfl ?_
      refine gp_callS X Y (cs_isHour _ X.tr G y) wX1_64 ⟨rfl, rfl⟩ ⟨by decide, by decide⟩ ⟨(by first | decide | omega | (dsimp only; omega)), (by first | decide | omega | (dsimp only; omega))⟩ rfl (Nat.le_of_ble_eq_true rfl) dX1_bid_15 ?_
      refine ga_ifb_eq X (tgt := 25) dX1_bid_18 (by decide) (fun c_18 => ?_) (fun c_18 => ?_)
      · refine ga_iconst X (v := 0) dX1_bid_25 (by decide) ?_
        exact J26 _ ((bI_f (fun hh => (fun hh => c_18 hh.2) hh.2)).symm)
      · refine ga_iconst X (v := 1) dX1_bid_21 (by decide) ?_
        refine ga_goto X (tgt := 26) dX1_bid_22 (by decide) ?_
        exact J26 _ ((bI_t ⟨c_4, ⟨c_11, c_18⟩⟩).symm)
def ct_block (τ : gm_S) (N : gc_L) (f z y b p u : Int32) : Int32 := if (0 ≤ f ∧ f ≤ 5) ∧ (0 ≤ z ∧ z ≤ 2) then (if (1 ≤ y ∧ y ≤ 15) ∧ ((0 ≤ p ∧ p ≤ 200) ∧ (1 ≤ u ∧ u ≤ 10)) then (if ((τ 600 (cx f)) = 0) ∧ ((N 40 (N 16 0) = 0) ∧ (¬ (5 ≤ (nI (N 11 (N 16 0)))))) then 0 else 3) else 2) else 1
def cd_block (τ : gm_S) (N : gc_L) (f z y b p u : Int32) : Int32 := nI (N 11 (N 16 0))
def cu_block (τ : gm_S) (N : gc_L) (f z y b p u : Int32) : gm_S := up2 (up2 (up2 (up2 (up2 (up2 (up2 (up2 (up2 (up2 τ 3100 (1024 * (N 16 0) + N 11 (N 16 0)) f) 3101 (1024 * (N 16 0) + N 11 (N 16 0)) z) 3102 (1024 * (N 16 0) + N 11 (N 16 0)) y) 3103 (1024 * (N 16 0) + N 11 (N 16 0)) b) 3104 (1024 * (N 16 0) + N 11 (N 16 0)) p) 3105 (1024 * (N 16 0) + N 11 (N 16 0)) u) 3106 (1024 * (N 16 0) + N 11 (N 16 0)) (-1)) 3107 (1024 * (N 16 0) + N 11 (N 16 0)) (-1)) 3108 (1024 * (N 16 0) + N 11 (N 16 0)) 0) (100 * 11) (N 16 0) (τ (100 * 11) (N 16 0) + 1)
def cn_block (τ : gm_S) (N : gc_L) (f z y b p u : Int32) : gc_L := up3 (up3 N 11 (N 16 0) (N 11 (N 16 0) + 1)) (11 + 10) (N 16 0) (gc_cap (N 11 (N 16 0)) (N (11 + 10) (N 16 0)))
set_option maxHeartbeats 4000000 in
theorem cm_block (l : Launch) (hl : l.stackTraces = false) (G : ga_X) (L N : gc_L) (τ : gm_S) (f z y b p u : Int32) (hb : b = 0 ∨ b = 1) : gn_C l G yX1_block cX1_block 7 (some FieldType.int) ({ frames := 9, cells := 6, slots := 960, locals := 400 } : Room) [.ref (L 0 0), .int f, .int z, .int y, .int b, .int p, .int u] L N τ (ct_block τ N f z y b p u) (some (.int (cd_block τ N f z y b p u))) (cn_block τ N f z y b p u) (cu_block τ N f z y b p u) := by
  refine gn_start RX1 hl rfl (by decide) (Nat.le_of_ble_eq_true rfl) (fun Γ h1 h n0 n1 n e X Y hP hn hF hn1 hn01 hxt => ?_)
  subst e
  show ga Γ G h n 0 0 0 [(0, .ref (L 0 0)), (1, .int f), (2, .int z), (3, .int y), (4, .int b), (5, .int p), (6, .int u)] []
  refine ga_iload_n X 1 dX1_block_0 rfl rfl ?_
  refine gp_callS X Y (cs_isFirm _ X.tr G f) wX1_37 ⟨rfl, rfl⟩ ⟨by decide, by decide⟩ ⟨(by first | decide | omega | (dsimp only; omega)), (by first | decide | omega | (dsimp only; omega))⟩ rfl (Nat.le_of_ble_eq_true rfl) dX1_block_1 ?_
  have J19 : ∀ (v19 : Int32), v19 = (bI ((0 ≤ f ∧ f ≤ 5) ∧ (0 ≤ z ∧ z ≤ 2))) → ga Γ G h n 0 0 19 [(0, .ref (L 0 0)), (1, .int f), (2, .int z), (3, .int y), (4, .int b), (5, .int p), (6, .int u)] (.int v19 :: []) := by
    intro v19 ev19
    subst ev19
    refine ga_callS X Y (cm_place _ X.tr G ((0 ≤ f ∧ f ≤ 5) ∧ (0 ≤ z ∧ z ≤ 2)) _ _) wX1_41 ⟨Nat.le_of_ble_eq_true rfl, Nat.le_of_ble_eq_true rfl⟩ ⟨(by first | decide | omega | (dsimp only; omega)), (by first | decide | omega | (dsimp only; omega))⟩ rfl (Nat.le_of_ble_eq_true rfl) dX1_block_19 (fun v9 h9 n9 hq _ => ?_) (fun E9 h9 n9 hq _ => ?_)
    rotate_left
    · obtain ⟨hc, rfl, hq2, hq3⟩ := hq
      exact ga_out X Y (fun x hx => (hxt x hx).elim) (by first | decide | omega | (dsimp only; omega)) (by first | decide | omega | (dsimp only; omega)) ⟨by unfold ct_block; rw [if_neg hc]; decide, by unfold ct_block; rw [if_neg hc]; rfl, Nat.le_trans hn1 hq3, by rw [hq2]; exact hF⟩
    obtain ⟨hp_1, rfl, hq2, hq3⟩ := hq
    rw [hq2, hq3]
    refine ga_widen (k2 := 1) (n2 := 6) (by first | decide | omega | (dsimp only; omega)) (by first | decide | omega | (dsimp only; omega)) ?_
    show ga Γ G _ _ _ _ 22 [(0, .ref (L 0 0)), (1, .int f), (2, .int z), (3, .int y), (4, .int b), (5, .int p), (6, .int u)] ([])
    have rl_1 := cx_lt hp_1.1 (m := 6) (by decide) (by decide)
    refine ga_iload_n X 3 dX1_block_22 rfl rfl ?_
    refine ga_iconst X (v := 1) dX1_block_23 (by decide) ?_
    refine ga_bipush X (v := 15) dX1_block_24 (by decide) ?_
    refine gp_callS X Y (cs_isIn _ X.tr G y 1 15) wX1_46 ⟨rfl, rfl⟩ ⟨by decide, by decide⟩ ⟨(by first | decide | omega | (dsimp only; omega)), (by first | decide | omega | (dsimp only; omega))⟩ rfl (Nat.le_of_ble_eq_true rfl) dX1_block_26 ?_
    have J60 : ∀ (v60 : Int32), v60 = (bI ((1 ≤ y ∧ y ≤ 15) ∧ ((0 ≤ p ∧ p ≤ 200) ∧ (1 ≤ u ∧ u ≤ 10)))) → ga Γ G h n 1 6 60 [(0, .ref (L 0 0)), (1, .int f), (2, .int z), (3, .int y), (4, .int b), (5, .int p), (6, .int u)] (.int v60 :: []) := by
      intro v60 ev60
      subst ev60
      refine ga_callS X Y (cm_check _ X.tr G ((1 ≤ y ∧ y ≤ 15) ∧ ((0 ≤ p ∧ p ≤ 200) ∧ (1 ≤ u ∧ u ≤ 10))) _ _) wX1_50 ⟨Nat.le_of_ble_eq_true rfl, Nat.le_of_ble_eq_true rfl⟩ ⟨(by first | decide | omega | (dsimp only; omega)), (by first | decide | omega | (dsimp only; omega))⟩ rfl (Nat.le_of_ble_eq_true rfl) dX1_block_60 (fun v9 h9 n9 hq _ => ?_) (fun E9 h9 n9 hq _ => ?_)
      rotate_left
      · obtain ⟨hc, rfl, hq2, hq3⟩ := hq
        exact ga_out X Y (fun x hx => (hxt x hx).elim) (by first | decide | omega | (dsimp only; omega)) (by first | decide | omega | (dsimp only; omega)) ⟨by unfold ct_block; rw [if_pos hp_1, if_neg hc]; decide, by unfold ct_block; rw [if_pos hp_1, if_neg hc]; rfl, Nat.le_trans hn1 hq3, by rw [hq2]; exact hF⟩
      obtain ⟨hp_2, rfl, hq2, hq3⟩ := hq
      rw [hq2, hq3]
      refine ga_widen (k2 := 2) (n2 := 12) (by first | decide | omega | (dsimp only; omega)) (by first | decide | omega | (dsimp only; omega)) ?_
      show ga Γ G _ _ _ _ 63 [(0, .ref (L 0 0)), (1, .int f), (2, .int z), (3, .int y), (4, .int b), (5, .int p), (6, .int u)] ([])
      refine ga_aload_n X 0 dX1_block_63 rfl rfl ?_
      refine ga_get X in_X1 (ci := 0) rfl 5 (by decide) q193 rfl hP.r0 rfl dX1_block_64 ?_
      refine ga_iload_n X 1 dX1_block_67 rfl rfl ?_
      refine ga_zald X (cx f) (cx_e hp_1.1) (by omega) (by decide) hP.r6.1 dX1_block_68 ?_
      have J103 : ∀ (v103 : Int32), v103 = (bI (((τ 600 (cx f)) = 0) ∧ ((N 40 (N 16 0) = 0) ∧ (¬ (5 ≤ (nI (N 11 (N 16 0)))))))) → ga Γ G h n 2 12 103 [(0, .ref (L 0 0)), (1, .int f), (2, .int z), (3, .int y), (4, .int b), (5, .int p), (6, .int u)] (.int v103 :: []) := by
        intro v103 ev103
        subst ev103
        refine ga_callS X Y (cm_allow _ X.tr G (((τ 600 (cx f)) = 0) ∧ ((N 40 (N 16 0) = 0) ∧ (¬ (5 ≤ (nI (N 11 (N 16 0))))))) _ _) wX1_54 ⟨Nat.le_of_ble_eq_true rfl, Nat.le_of_ble_eq_true rfl⟩ ⟨(by first | decide | omega | (dsimp only; omega)), (by first | decide | omega | (dsimp only; omega))⟩ rfl (Nat.le_of_ble_eq_true rfl) dX1_block_103 (fun v9 h9 n9 hq _ => ?_) (fun E9 h9 n9 hq _ => ?_)
        rotate_left
        · obtain ⟨hc, rfl, hq2, hq3⟩ := hq
          exact ga_out X Y (fun x hx => (hxt x hx).elim) (by first | decide | omega | (dsimp only; omega)) (by first | decide | omega | (dsimp only; omega)) ⟨by unfold ct_block; rw [if_pos hp_1, if_pos hp_2, if_neg hc]; decide, by unfold ct_block; rw [if_pos hp_1, if_pos hp_2, if_neg hc]; rfl, Nat.le_trans hn1 hq3, by rw [hq2]; exact hF⟩
        obtain ⟨hp_3, rfl, hq2, hq3⟩ := hq
        rw [hq2, hq3]
        refine ga_widen (k2 := 3) (n2 := 18) (by first | decide | omega | (dsimp only; omega)) (by first | decide | omega | (dsimp only; omega)) ?_
        show ga Γ G _ _ _ _ 106 [(0, .ref (L 0 0)), (1, .int f), (2, .int z), (3, .int y), (4, .int b), (5, .int p), (6, .int u)] ([])
        refine ga_aload_n X 0 dX1_block_106 rfl rfl ?_
        refine ga_get X in_X1 (ci := 0) rfl 1 (by decide) q189 rfl hP.r0 rfl dX1_block_107 ?_
        refine ga_getN X in_X2 (ci := 1) rfl 1 (by decide) q146 rfl (hP.r36 (Nat.le_refl _)) rfl dX1_block_110 ?_
        refine ga_new X Y in_X5 tyX5 tyX5_ok (ci := 4) rfl q524 q525 q74 (fs := [.int 0, .int 0, .int 0, .int 0, .int 0, .int 0, .int 0, .int 0, .int 0]) rfl (by first | decide | omega | (dsimp only; omega)) (by first | decide | omega | (dsimp only; omega)) dX1_block_113 ?_
        refine ga_widen (k2 := 4) (n2 := 27) (by first | decide | omega | (dsimp only; omega)) (by first | decide | omega | (dsimp only; omega)) ?_
        refine gq_al (P := fun t h n => ga Γ G h n 4 27 116 [(0, .ref (L 0 0)), (1, .int f), (2, .int z), (3, .int y), (4, .int b), (5, .int p), (6, .int u)] (.ref t :: .ref (L 11 (N 16 0)) :: [])) hP hn hF hn1 (fun t116 h n hP hn hF hn1 hk ht_t116 hl_t116 ha_t116 hb_t116 he_t116 => ?_)
        refine ga_dup X dX1_block_116 rfl ?_
        refine ga_iload_n X 1 dX1_block_117 rfl rfl ?_
        refine ga_iload_n X 2 dX1_block_118 rfl rfl ?_
        refine ga_iload_n X 3 dX1_block_119 rfl rfl ?_
        refine ga_iload X 4 dX1_block_120 rfl ?_
        refine ga_iload X 5 dX1_block_122 rfl ?_
        refine ga_iload X 6 dX1_block_124 rfl ?_
        refine ga_callI X Y (ci_X5 _ X.tr G t116 f z y b p u _ _ ht_t116 (Nat.le_trans hP.G hb_t116) hb) wX1_90 ⟨Nat.le_of_ble_eq_true rfl, Nat.le_of_ble_eq_true rfl⟩ ⟨(by first | decide | omega | (dsimp only; omega)), (by first | decide | omega | (dsimp only; omega))⟩ rfl (Nat.le_of_ble_eq_true rfl) dX1_block_126 (fun v9 h9 n9 hq _ => ?_)
        obtain ⟨rfl, hq2, hq3⟩ := hq
        rw [hq2, hq3]
        refine ga_widen (k2 := 4) (n2 := 27) (by first | decide | omega | (dsimp only; omega)) (by first | decide | omega | (dsimp only; omega)) ?_
        show ga Γ G _ _ _ _ 129 [(0, .ref (L 0 0)), (1, .int f), (2, .int z), (3, .int y), (4, .int b), (5, .int p), (6, .int u)] (.ref t116 :: .ref (L 11 (N 16 0)) :: [])
        refine gq_up (P := fun h => ga Γ G h n 4 27 129 [(0, .ref (L 0 0)), (1, .int f), (2, .int z), (3, .int y), (4, .int b), (5, .int p), (6, .int u)] (.ref t116 :: .ref (L 11 (N 16 0)) :: [])) hP hF hb_t116 ha_t116 (fun h hP hF ht_t116 hk => ?_)
        have hF : gc_V1 L N n0 n1 h1 h := gc_V1.of hF
        refine gn_addrow (kl := 11) (τ' := up2 (up2 (up2 (up2 (up2 (up2 (up2 (up2 (up2 τ 3100 (1024 * (N 16 0) + N 11 (N 16 0)) f) 3101 (1024 * (N 16 0) + N 11 (N 16 0)) z) 3102 (1024 * (N 16 0) + N 11 (N 16 0)) y) 3103 (1024 * (N 16 0) + N 11 (N 16 0)) b) 3104 (1024 * (N 16 0) + N 11 (N 16 0)) p) 3105 (1024 * (N 16 0) + N 11 (N 16 0)) u) 3106 (1024 * (N 16 0) + N 11 (N 16 0)) (-1)) 3107 (1024 * (N 16 0) + N 11 (N 16 0)) (-1)) 3108 (1024 * (N 16 0) + N 11 (N 16 0)) 0) (N1 := N) X Y hP hn hF.1 (by omega) wX1_81 (Or.inr (Or.inl rfl)) (Nat.le_refl _) (Nat.lt_of_not_le fun z => hp_3.2.2 ((nI_leI (a := 5) (by omega) (by have := gc_mx_P (d := N 16 0) hP (kl := 11) (by omega); omega)).mpr z)) (fun _ _ _ _ => rfl) (fun _ _ => ⟨rfl, rfl⟩) ht_t116 hb_t116 hl_t116 (Or.inl ⟨4, _, _, ht_t116, rfl, Or.inr q1973⟩) (fun key j hc => (up2_ne (by omega)).trans ((up2_ne (by omega)).trans ((up2_ne (by omega)).trans ((up2_ne (by omega)).trans ((up2_ne (by omega)).trans ((up2_ne (by omega)).trans ((up2_ne (by omega)).trans ((up2_ne (by omega)).trans (up2_ne (by omega)))))))))) (fun L2 N2 _ _ _ _ => by simp [gc_ok, up2, upd]; exact hb) ⟨Nat.le_of_ble_eq_true rfl, Nat.le_of_ble_eq_true rfl⟩ ⟨(by first | decide | omega | (dsimp only; omega)), (by first | decide | omega | (dsimp only; omega))⟩ (Nat.le_of_ble_eq_true rfl) dX1_block_129 (fun L2 h n k2 k3 k4 k5 k6 => ?_)
        obtain ⟨t9, ht9⟩ : ∃ t9 : gm_S, t9 = up2 (up2 (up2 (up2 (up2 (up2 (up2 (up2 (up2 (up2 τ 3100 (1024 * (N 16 0) + N 11 (N 16 0)) f) 3101 (1024 * (N 16 0) + N 11 (N 16 0)) z) 3102 (1024 * (N 16 0) + N 11 (N 16 0)) y) 3103 (1024 * (N 16 0) + N 11 (N 16 0)) b) 3104 (1024 * (N 16 0) + N 11 (N 16 0)) p) 3105 (1024 * (N 16 0) + N 11 (N 16 0)) u) 3106 (1024 * (N 16 0) + N 11 (N 16 0)) (-1)) 3107 (1024 * (N 16 0) + N 11 (N 16 0)) (-1)) 3108 (1024 * (N 16 0) + N 11 (N 16 0)) 0) (100 * 11) (N 16 0) (τ (100 * 11) (N 16 0) + 1) := ⟨_, rfl⟩
        obtain ⟨N2, hN2⟩ : ∃ N2 : gc_L, N2 = up3 (up3 N 11 (N 16 0) (N 11 (N 16 0) + 1)) (11 + 10) (N 16 0) (gc_cap (N 11 (N 16 0)) (N (11 + 10) (N 16 0))) := ⟨_, rfl⟩
        rw [← ht9, ← hN2] at k2
        rw [← hN2] at k3
        have hP := k2
        have e16 : N2 16 0 = N 16 0 := by rw [hN2]; exact (up3_n (by omega)).trans (up3_n (by omega))
        have ekl : N2 11 (N 16 0) = N 11 (N 16 0) + 1 := by rw [hN2]; exact (up3_n (by omega)).trans up3_s
        refine ga_lv (lv' := [(0, .ref (L2 0 0)), (1, .int f), (2, .int z), (3, .int y), (4, .int b), (5, .int p), (6, .int u)]) (by rw [k6 0 0 rfl (by omega)]) ?_
        refine ga_pop X dX1_block_134 rfl ?_
        refine ga_aload_n X 0 dX1_block_135 rfl rfl ?_
        refine ga_get X in_X1 (ci := 0) rfl 1 (by decide) q189 rfl hP.r0 rfl dX1_block_136 ?_
        refine ga_getN X in_X2 (ci := 1) rfl 1 (by decide) q146 rfl (hP.r36 (Nat.le_refl _)) rfl dX1_block_139 ?_
        refine ga_callF X Y (jm_size _ X.tr G (L2 11 (N2 16 0)) (gc_e G L2 N2 11 (N2 16 0)) (N2 11 (N2 16 0)) (t9 1100 (N2 16 0)) _ _ (hP.r11 (Nat.le_refl _))) wX1_70 (ci := 11) rfl (hP.r11 (Nat.le_refl _)) ⟨Nat.le_of_ble_eq_true rfl, Nat.le_of_ble_eq_true rfl⟩ ⟨(by first | decide | omega | (dsimp only; omega)), (by first | decide | omega | (dsimp only; omega))⟩ rfl (Nat.le_of_ble_eq_true rfl) dX1_block_142 (fun v9 h9 n9 hq _ => ?_) (fun _ _ _ q _ => q.elim)
        obtain ⟨rfl, hq2, hq3⟩ := hq
        rw [hq2, hq3]
        show ga Γ G _ _ _ _ 147 [(0, .ref (L2 0 0)), (1, .int f), (2, .int z), (3, .int y), (4, .int b), (5, .int p), (6, .int u)] (.int (nI (N2 11 (N2 16 0))) :: [])
        refine ga_iconst X (v := 1) dX1_block_147 (by decide) ?_
        refine ga_isub X dX1_block_148 ?_
        exact ga_iret X Y dX1_block_149 (by first | decide | omega | (dsimp only; omega)) (by first | decide | omega | (dsimp only; omega)) ⟨by unfold ct_block; rw [if_pos hp_1, if_pos hp_2, if_pos hp_3], congrArg (fun z => some (Value.int z)) (show (nI (N2 11 (N2 16 0))) - 1 = cd_block τ N f z y b p u from by unfold cd_block; rw [e16, ekl, nI_pred]), by omega, k4, L2, (show gc_P G L2 (cn_block τ N f z y b p u) (cu_block τ N f z y b p u) n h by unfold cu_block cn_block; rw [← ht9, ← hN2]; exact hP), (show gc_G L N L2 (cn_block τ N f z y b p u) n1 by unfold cn_block; rw [← hN2]; exact hn01 ▸ k3), k6 0 0 rfl (by omega)⟩
      refine ga_if_ne X (tgt := 102) dX1_block_69 (by decide) (fun c_69 => ?_) (fun c_69 => ?_)
      · refine ga_iconst X (v := 0) dX1_block_102 (by decide) ?_
        exact J103 _ ((bI_f (fun hh => c_69 hh.1)).symm)
      · refine ga_aload_n X 0 dX1_block_72 rfl rfl ?_
        refine ga_get X in_X1 (ci := 0) rfl 1 (by decide) q189 rfl hP.r0 rfl dX1_block_73 ?_
        refine ga_getN X in_X2 (ci := 1) rfl 6 (by decide) q155 rfl (hP.r36 (Nat.le_refl _)) rfl dX1_block_76 ?_
        refine ga_ifnonnullI X (tgt := 102) dX1_block_79 (by decide) (fun c_79 => ?_) (fun c_79 => ?_)
        · refine ga_iconst X (v := 0) dX1_block_102 (by decide) ?_
          exact J103 _ ((bI_f (fun hh => (fun hh => c_79 hh.1) hh.2)).symm)
        · refine ga_aload_n X 0 dX1_block_82 rfl rfl ?_
          refine ga_get X in_X1 (ci := 0) rfl 1 (by decide) q189 rfl hP.r0 rfl dX1_block_83 ?_
          refine ga_getN X in_X2 (ci := 1) rfl 1 (by decide) q146 rfl (hP.r36 (Nat.le_refl _)) rfl dX1_block_86 ?_
          refine ga_callF X Y (jm_size _ X.tr G (L 11 (N 16 0)) (gc_e G L N 11 (N 16 0)) (N 11 (N 16 0)) (τ 1100 (N 16 0)) _ _ (hP.r11 (Nat.le_refl _))) wX1_70 (ci := 11) rfl (hP.r11 (Nat.le_refl _)) ⟨Nat.le_of_ble_eq_true rfl, Nat.le_of_ble_eq_true rfl⟩ ⟨(by first | decide | omega | (dsimp only; omega)), (by first | decide | omega | (dsimp only; omega))⟩ rfl (Nat.le_of_ble_eq_true rfl) dX1_block_89 (fun v9 h9 n9 hq _ => ?_) (fun _ _ _ q _ => q.elim)
          obtain ⟨rfl, hq2, hq3⟩ := hq
          rw [hq2, hq3]
          show ga Γ G _ _ _ _ 94 [(0, .ref (L 0 0)), (1, .int f), (2, .int z), (3, .int y), (4, .int b), (5, .int p), (6, .int u)] (.int (nI (N 11 (N 16 0))) :: [])
          refine ga_iconst X (v := 5) dX1_block_94 (by decide) ?_
          refine ga_icmp_ge X (tgt := 102) dX1_block_95 (by decide) (fun c_95 => ?_) (fun c_95 => ?_)
          · refine ga_iconst X (v := 0) dX1_block_102 (by decide) ?_
            exact J103 _ ((bI_f (fun hh => (fun hh => (fun hh => hh c_95) hh.2) hh.2)).symm)
          · refine ga_iconst X (v := 1) dX1_block_98 (by decide) ?_
            refine ga_goto X (tgt := 103) dX1_block_99 (by decide) ?_
            exact J103 _ ((bI_t ⟨c_69, ⟨c_79, c_95⟩⟩).symm)
    refine ga_ifb_eq X (tgt := 59) dX1_block_29 (by decide) (fun c_29 => ?_) (fun c_29 => ?_)
    · refine ga_iconst X (v := 0) dX1_block_59 (by decide) ?_
      exact J60 _ ((bI_f (fun hh => c_29 hh.1)).symm)
    · refine ga_iload X 5 dX1_block_32 rfl ?_
      refine ga_iconst X (v := 0) dX1_block_34 (by decide) ?_
      refine ga_sipush X (v := 200) dX1_block_35 (by decide) ?_
      refine gp_callS X Y (cs_isIn _ X.tr G p 0 200) wX1_46 ⟨rfl, rfl⟩ ⟨by decide, by decide⟩ ⟨(by first | decide | omega | (dsimp only; omega)), (by first | decide | omega | (dsimp only; omega))⟩ rfl (Nat.le_of_ble_eq_true rfl) dX1_block_38 ?_
      refine ga_ifb_eq X (tgt := 59) dX1_block_41 (by decide) (fun c_41 => ?_) (fun c_41 => ?_)
      · refine ga_iconst X (v := 0) dX1_block_59 (by decide) ?_
        exact J60 _ ((bI_f (fun hh => (fun hh => c_41 hh.1) hh.2)).symm)
      · refine ga_iload X 6 dX1_block_44 rfl ?_
        refine ga_iconst X (v := 1) dX1_block_46 (by decide) ?_
        refine ga_bipush X (v := 10) dX1_block_47 (by decide) ?_
        refine gp_callS X Y (cs_isIn _ X.tr G u 1 10) wX1_46 ⟨rfl, rfl⟩ ⟨by decide, by decide⟩ ⟨(by first | decide | omega | (dsimp only; omega)), (by first | decide | omega | (dsimp only; omega))⟩ rfl (Nat.le_of_ble_eq_true rfl) dX1_block_49 ?_
        refine ga_ifb_eq X (tgt := 59) dX1_block_52 (by decide) (fun c_52 => ?_) (fun c_52 => ?_)
        · refine ga_iconst X (v := 0) dX1_block_59 (by decide) ?_
          exact J60 _ ((bI_f (fun hh => (fun hh => c_52 hh.2) hh.2)).symm)
        · refine ga_iconst X (v := 1) dX1_block_55 (by decide) ?_
          refine ga_goto X (tgt := 60) dX1_block_56 (by decide) ?_
          exact J60 _ ((bI_t ⟨c_29, ⟨c_41, c_52⟩⟩).symm)
  refine ga_ifb_eq X (tgt := 18) dX1_block_4 (by decide) (fun c_4 => ?_) (fun c_4 => ?_)
  · refine ga_iconst X (v := 0) dX1_block_18 (by decide) ?_
    exact J19 _ ((bI_f (fun hh => c_4 hh.1)).symm)
  · refine ga_iload_n X 2 dX1_block_7 rfl rfl ?_
    refine gp_callS X Y (cs_isZone _ X.tr G z) wX1_61 ⟨rfl, rfl⟩ ⟨by decide, by decide⟩ ⟨(by first | decide | omega | (dsimp only; omega)), (by first | decide | omega | (dsimp only; omega))⟩ rfl (Nat.le_of_ble_eq_true rfl) dX1_block_8 ?_
    refine ga_ifb_eq X (tgt := 18) dX1_block_11 (by decide) (fun c_11 => ?_) (fun c_11 => ?_)
    · refine ga_iconst X (v := 0) dX1_block_18 (by decide) ?_
      exact J19 _ ((bI_f (fun hh => c_11 hh.2)).symm)
    · refine ga_iconst X (v := 1) dX1_block_14 (by decide) ?_
      refine ga_goto X (tgt := 19) dX1_block_15 (by decide) ?_
      exact J19 _ ((bI_t ⟨c_4, c_11⟩).symm)
def ct_ask (τ : gm_S) (N : gc_L) (f z y u p : Int32) : Int32 := if (0 ≤ f ∧ f ≤ 5) ∧ ((0 ≤ z ∧ z ≤ 2) ∧ (0 ≤ y ∧ y ≤ 2)) then (if ¬ (z = y) ∧ ((1 ≤ u ∧ u ≤ 10) ∧ (0 ≤ p ∧ p ≤ 500)) then (if ((τ 600 (cx f)) = 0) ∧ ((N 40 (N 16 0) = 0) ∧ (¬ (20 ≤ (nI (N 12 (N 16 0)))))) then 0 else 3) else 2) else 1
def cd_ask (τ : gm_S) (N : gc_L) (f z y u p : Int32) : Int32 := nI (N 12 (N 16 0))
def cu_ask (τ : gm_S) (N : gc_L) (f z y u p : Int32) : gm_S := up2 (up2 (up2 (up2 (up2 (up2 (up2 (up2 τ 3200 (1024 * (N 16 0) + N 12 (N 16 0)) f) 3201 (1024 * (N 16 0) + N 12 (N 16 0)) z) 3202 (1024 * (N 16 0) + N 12 (N 16 0)) y) 3203 (1024 * (N 16 0) + N 12 (N 16 0)) u) 3204 (1024 * (N 16 0) + N 12 (N 16 0)) p) 3205 (1024 * (N 16 0) + N 12 (N 16 0)) 0) 3206 (1024 * (N 16 0) + N 12 (N 16 0)) 0) (100 * 12) (N 16 0) (τ (100 * 12) (N 16 0) + 1)
def cn_ask (τ : gm_S) (N : gc_L) (f z y u p : Int32) : gc_L := up3 (up3 N 12 (N 16 0) (N 12 (N 16 0) + 1)) (12 + 10) (N 16 0) (gc_cap (N 12 (N 16 0)) (N (12 + 10) (N 16 0)))
set_option maxHeartbeats 4000000 in
theorem cm_ask (l : Launch) (hl : l.stackTraces = false) (G : ga_X) (L N : gc_L) (τ : gm_S) (f z y u p : Int32)  : gn_C l G yX1_ask cX1_ask 6 (some FieldType.int) ({ frames := 9, cells := 6, slots := 960, locals := 400 } : Room) [.ref (L 0 0), .int f, .int z, .int y, .int u, .int p] L N τ (ct_ask τ N f z y u p) (some (.int (cd_ask τ N f z y u p))) (cn_ask τ N f z y u p) (cu_ask τ N f z y u p) := by
  refine gn_start RX1 hl rfl (by decide) (Nat.le_of_ble_eq_true rfl) (fun Γ h1 h n0 n1 n e X Y hP hn hF hn1 hn01 hxt => ?_)
  subst e
  show ga Γ G h n 0 0 0 [(0, .ref (L 0 0)), (1, .int f), (2, .int z), (3, .int y), (4, .int u), (5, .int p)] []
  refine ga_iload_n X 1 dX1_ask_0 rfl rfl ?_
  refine gp_callS X Y (cs_isFirm _ X.tr G f) wX1_37 ⟨rfl, rfl⟩ ⟨by decide, by decide⟩ ⟨(by first | decide | omega | (dsimp only; omega)), (by first | decide | omega | (dsimp only; omega))⟩ rfl (Nat.le_of_ble_eq_true rfl) dX1_ask_1 ?_
  have J26 : ∀ (v26 : Int32), v26 = (bI ((0 ≤ f ∧ f ≤ 5) ∧ ((0 ≤ z ∧ z ≤ 2) ∧ (0 ≤ y ∧ y ≤ 2)))) → ga Γ G h n 0 0 26 [(0, .ref (L 0 0)), (1, .int f), (2, .int z), (3, .int y), (4, .int u), (5, .int p)] (.int v26 :: []) := by
    intro v26 ev26
    subst ev26
    refine ga_callS X Y (cm_place _ X.tr G ((0 ≤ f ∧ f ≤ 5) ∧ ((0 ≤ z ∧ z ≤ 2) ∧ (0 ≤ y ∧ y ≤ 2))) _ _) wX1_41 ⟨Nat.le_of_ble_eq_true rfl, Nat.le_of_ble_eq_true rfl⟩ ⟨(by first | decide | omega | (dsimp only; omega)), (by first | decide | omega | (dsimp only; omega))⟩ rfl (Nat.le_of_ble_eq_true rfl) dX1_ask_26 (fun v9 h9 n9 hq _ => ?_) (fun E9 h9 n9 hq _ => ?_)
    rotate_left
    · obtain ⟨hc, rfl, hq2, hq3⟩ := hq
      exact ga_out X Y (fun x hx => (hxt x hx).elim) (by first | decide | omega | (dsimp only; omega)) (by first | decide | omega | (dsimp only; omega)) ⟨by unfold ct_ask; rw [if_neg hc]; decide, by unfold ct_ask; rw [if_neg hc]; rfl, Nat.le_trans hn1 hq3, by rw [hq2]; exact hF⟩
    obtain ⟨hp_1, rfl, hq2, hq3⟩ := hq
    rw [hq2, hq3]
    refine ga_widen (k2 := 1) (n2 := 6) (by first | decide | omega | (dsimp only; omega)) (by first | decide | omega | (dsimp only; omega)) ?_
    show ga Γ G _ _ _ _ 29 [(0, .ref (L 0 0)), (1, .int f), (2, .int z), (3, .int y), (4, .int u), (5, .int p)] ([])
    have rl_1 := cx_lt hp_1.1 (m := 6) (by decide) (by decide)
    refine ga_iload_n X 2 dX1_ask_29 rfl rfl ?_
    refine ga_iload_n X 3 dX1_ask_30 rfl rfl ?_
    have J62 : ∀ (v62 : Int32), v62 = (bI (¬ (z = y) ∧ ((1 ≤ u ∧ u ≤ 10) ∧ (0 ≤ p ∧ p ≤ 500)))) → ga Γ G h n 1 6 62 [(0, .ref (L 0 0)), (1, .int f), (2, .int z), (3, .int y), (4, .int u), (5, .int p)] (.int v62 :: []) := by
      intro v62 ev62
      subst ev62
      refine ga_callS X Y (cm_check _ X.tr G (¬ (z = y) ∧ ((1 ≤ u ∧ u ≤ 10) ∧ (0 ≤ p ∧ p ≤ 500))) _ _) wX1_50 ⟨Nat.le_of_ble_eq_true rfl, Nat.le_of_ble_eq_true rfl⟩ ⟨(by first | decide | omega | (dsimp only; omega)), (by first | decide | omega | (dsimp only; omega))⟩ rfl (Nat.le_of_ble_eq_true rfl) dX1_ask_62 (fun v9 h9 n9 hq _ => ?_) (fun E9 h9 n9 hq _ => ?_)
      rotate_left
      · obtain ⟨hc, rfl, hq2, hq3⟩ := hq
        exact ga_out X Y (fun x hx => (hxt x hx).elim) (by first | decide | omega | (dsimp only; omega)) (by first | decide | omega | (dsimp only; omega)) ⟨by unfold ct_ask; rw [if_pos hp_1, if_neg hc]; decide, by unfold ct_ask; rw [if_pos hp_1, if_neg hc]; rfl, Nat.le_trans hn1 hq3, by rw [hq2]; exact hF⟩
      obtain ⟨hp_2, rfl, hq2, hq3⟩ := hq
      rw [hq2, hq3]
      refine ga_widen (k2 := 2) (n2 := 12) (by first | decide | omega | (dsimp only; omega)) (by first | decide | omega | (dsimp only; omega)) ?_
      show ga Γ G _ _ _ _ 65 [(0, .ref (L 0 0)), (1, .int f), (2, .int z), (3, .int y), (4, .int u), (5, .int p)] ([])
      refine ga_aload_n X 0 dX1_ask_65 rfl rfl ?_
      refine ga_get X in_X1 (ci := 0) rfl 5 (by decide) q193 rfl hP.r0 rfl dX1_ask_66 ?_
      refine ga_iload_n X 1 dX1_ask_69 rfl rfl ?_
      refine ga_zald X (cx f) (cx_e hp_1.1) (by omega) (by decide) hP.r6.1 dX1_ask_70 ?_
      have J106 : ∀ (v106 : Int32), v106 = (bI (((τ 600 (cx f)) = 0) ∧ ((N 40 (N 16 0) = 0) ∧ (¬ (20 ≤ (nI (N 12 (N 16 0)))))))) → ga Γ G h n 2 12 106 [(0, .ref (L 0 0)), (1, .int f), (2, .int z), (3, .int y), (4, .int u), (5, .int p)] (.int v106 :: []) := by
        intro v106 ev106
        subst ev106
        refine ga_callS X Y (cm_allow _ X.tr G (((τ 600 (cx f)) = 0) ∧ ((N 40 (N 16 0) = 0) ∧ (¬ (20 ≤ (nI (N 12 (N 16 0))))))) _ _) wX1_54 ⟨Nat.le_of_ble_eq_true rfl, Nat.le_of_ble_eq_true rfl⟩ ⟨(by first | decide | omega | (dsimp only; omega)), (by first | decide | omega | (dsimp only; omega))⟩ rfl (Nat.le_of_ble_eq_true rfl) dX1_ask_106 (fun v9 h9 n9 hq _ => ?_) (fun E9 h9 n9 hq _ => ?_)
        rotate_left
        · obtain ⟨hc, rfl, hq2, hq3⟩ := hq
          exact ga_out X Y (fun x hx => (hxt x hx).elim) (by first | decide | omega | (dsimp only; omega)) (by first | decide | omega | (dsimp only; omega)) ⟨by unfold ct_ask; rw [if_pos hp_1, if_pos hp_2, if_neg hc]; decide, by unfold ct_ask; rw [if_pos hp_1, if_pos hp_2, if_neg hc]; rfl, Nat.le_trans hn1 hq3, by rw [hq2]; exact hF⟩
        obtain ⟨hp_3, rfl, hq2, hq3⟩ := hq
        rw [hq2, hq3]
        refine ga_widen (k2 := 3) (n2 := 18) (by first | decide | omega | (dsimp only; omega)) (by first | decide | omega | (dsimp only; omega)) ?_
        show ga Γ G _ _ _ _ 109 [(0, .ref (L 0 0)), (1, .int f), (2, .int z), (3, .int y), (4, .int u), (5, .int p)] ([])
        refine ga_aload_n X 0 dX1_ask_109 rfl rfl ?_
        refine ga_get X in_X1 (ci := 0) rfl 1 (by decide) q189 rfl hP.r0 rfl dX1_ask_110 ?_
        refine ga_getN X in_X2 (ci := 1) rfl 2 (by decide) q148 rfl (hP.r36 (Nat.le_refl _)) rfl dX1_ask_113 ?_
        refine ga_new X Y in_X6 tyX6 tyX6_ok (ci := 5) rfl q602 q603 q77 (fs := [.int 0, .int 0, .int 0, .int 0, .int 0, .int 0, .int 0]) rfl (by first | decide | omega | (dsimp only; omega)) (by first | decide | omega | (dsimp only; omega)) dX1_ask_116 ?_
        refine ga_widen (k2 := 4) (n2 := 25) (by first | decide | omega | (dsimp only; omega)) (by first | decide | omega | (dsimp only; omega)) ?_
        refine gq_al (P := fun t h n => ga Γ G h n 4 25 119 [(0, .ref (L 0 0)), (1, .int f), (2, .int z), (3, .int y), (4, .int u), (5, .int p)] (.ref t :: .ref (L 12 (N 16 0)) :: [])) hP hn hF hn1 (fun t119 h n hP hn hF hn1 hk ht_t119 hl_t119 ha_t119 hb_t119 he_t119 => ?_)
        refine ga_dup X dX1_ask_119 rfl ?_
        refine ga_iload_n X 1 dX1_ask_120 rfl rfl ?_
        refine ga_iload_n X 2 dX1_ask_121 rfl rfl ?_
        refine ga_iload_n X 3 dX1_ask_122 rfl rfl ?_
        refine ga_iload X 4 dX1_ask_123 rfl ?_
        refine ga_iload X 5 dX1_ask_125 rfl ?_
        refine ga_callI X Y (ci_X6 _ X.tr G t119 f z y u p _ _ ht_t119 (Nat.le_trans hP.G hb_t119)) wX1_107 ⟨Nat.le_of_ble_eq_true rfl, Nat.le_of_ble_eq_true rfl⟩ ⟨(by first | decide | omega | (dsimp only; omega)), (by first | decide | omega | (dsimp only; omega))⟩ rfl (Nat.le_of_ble_eq_true rfl) dX1_ask_127 (fun v9 h9 n9 hq _ => ?_)
        obtain ⟨rfl, hq2, hq3⟩ := hq
        rw [hq2, hq3]
        refine ga_widen (k2 := 4) (n2 := 25) (by first | decide | omega | (dsimp only; omega)) (by first | decide | omega | (dsimp only; omega)) ?_
        show ga Γ G _ _ _ _ 130 [(0, .ref (L 0 0)), (1, .int f), (2, .int z), (3, .int y), (4, .int u), (5, .int p)] (.ref t119 :: .ref (L 12 (N 16 0)) :: [])
        refine gq_up (P := fun h => ga Γ G h n 4 25 130 [(0, .ref (L 0 0)), (1, .int f), (2, .int z), (3, .int y), (4, .int u), (5, .int p)] (.ref t119 :: .ref (L 12 (N 16 0)) :: [])) hP hF hb_t119 ha_t119 (fun h hP hF ht_t119 hk => ?_)
        have hF : gc_V1 L N n0 n1 h1 h := gc_V1.of hF
        refine gn_addrow (kl := 12) (τ' := up2 (up2 (up2 (up2 (up2 (up2 (up2 τ 3200 (1024 * (N 16 0) + N 12 (N 16 0)) f) 3201 (1024 * (N 16 0) + N 12 (N 16 0)) z) 3202 (1024 * (N 16 0) + N 12 (N 16 0)) y) 3203 (1024 * (N 16 0) + N 12 (N 16 0)) u) 3204 (1024 * (N 16 0) + N 12 (N 16 0)) p) 3205 (1024 * (N 16 0) + N 12 (N 16 0)) 0) 3206 (1024 * (N 16 0) + N 12 (N 16 0)) 0) (N1 := N) X Y hP hn hF.1 (by omega) wX1_81 (Or.inr (Or.inr (Or.inl rfl))) (Nat.le_refl _) (Nat.lt_of_not_le fun z => hp_3.2.2 ((nI_leI (a := 20) (by omega) (by have := gc_mx_P (d := N 16 0) hP (kl := 12) (by omega); omega)).mpr z)) (fun _ _ _ _ => rfl) (fun _ _ => ⟨rfl, rfl⟩) ht_t119 hb_t119 hl_t119 (Or.inl ⟨5, _, _, ht_t119, rfl, Or.inr q1974⟩) (fun key j hc => (up2_ne (by omega)).trans ((up2_ne (by omega)).trans ((up2_ne (by omega)).trans ((up2_ne (by omega)).trans ((up2_ne (by omega)).trans ((up2_ne (by omega)).trans (up2_ne (by omega)))))))) (fun L2 N2 _ _ _ _ => by simp [gc_ok, up2, upd]) ⟨Nat.le_of_ble_eq_true rfl, Nat.le_of_ble_eq_true rfl⟩ ⟨(by first | decide | omega | (dsimp only; omega)), (by first | decide | omega | (dsimp only; omega))⟩ (Nat.le_of_ble_eq_true rfl) dX1_ask_130 (fun L2 h n k2 k3 k4 k5 k6 => ?_)
        obtain ⟨t9, ht9⟩ : ∃ t9 : gm_S, t9 = up2 (up2 (up2 (up2 (up2 (up2 (up2 (up2 τ 3200 (1024 * (N 16 0) + N 12 (N 16 0)) f) 3201 (1024 * (N 16 0) + N 12 (N 16 0)) z) 3202 (1024 * (N 16 0) + N 12 (N 16 0)) y) 3203 (1024 * (N 16 0) + N 12 (N 16 0)) u) 3204 (1024 * (N 16 0) + N 12 (N 16 0)) p) 3205 (1024 * (N 16 0) + N 12 (N 16 0)) 0) 3206 (1024 * (N 16 0) + N 12 (N 16 0)) 0) (100 * 12) (N 16 0) (τ (100 * 12) (N 16 0) + 1) := ⟨_, rfl⟩
        obtain ⟨N2, hN2⟩ : ∃ N2 : gc_L, N2 = up3 (up3 N 12 (N 16 0) (N 12 (N 16 0) + 1)) (12 + 10) (N 16 0) (gc_cap (N 12 (N 16 0)) (N (12 + 10) (N 16 0))) := ⟨_, rfl⟩
        rw [← ht9, ← hN2] at k2
        rw [← hN2] at k3
        have hP := k2
        have e16 : N2 16 0 = N 16 0 := by rw [hN2]; exact (up3_n (by omega)).trans (up3_n (by omega))
        have ekl : N2 12 (N 16 0) = N 12 (N 16 0) + 1 := by rw [hN2]; exact (up3_n (by omega)).trans up3_s
        refine ga_lv (lv' := [(0, .ref (L2 0 0)), (1, .int f), (2, .int z), (3, .int y), (4, .int u), (5, .int p)]) (by rw [k6 0 0 rfl (by omega)]) ?_
        refine ga_pop X dX1_ask_135 rfl ?_
        refine ga_aload_n X 0 dX1_ask_136 rfl rfl ?_
        refine ga_get X in_X1 (ci := 0) rfl 1 (by decide) q189 rfl hP.r0 rfl dX1_ask_137 ?_
        refine ga_getN X in_X2 (ci := 1) rfl 2 (by decide) q148 rfl (hP.r36 (Nat.le_refl _)) rfl dX1_ask_140 ?_
        refine ga_callF X Y (jm_size _ X.tr G (L2 12 (N2 16 0)) (gc_e G L2 N2 12 (N2 16 0)) (N2 12 (N2 16 0)) (t9 1200 (N2 16 0)) _ _ (hP.r12 (Nat.le_refl _))) wX1_70 (ci := 11) rfl (hP.r12 (Nat.le_refl _)) ⟨Nat.le_of_ble_eq_true rfl, Nat.le_of_ble_eq_true rfl⟩ ⟨(by first | decide | omega | (dsimp only; omega)), (by first | decide | omega | (dsimp only; omega))⟩ rfl (Nat.le_of_ble_eq_true rfl) dX1_ask_143 (fun v9 h9 n9 hq _ => ?_) (fun _ _ _ q _ => q.elim)
        obtain ⟨rfl, hq2, hq3⟩ := hq
        rw [hq2, hq3]
        show ga Γ G _ _ _ _ 148 [(0, .ref (L2 0 0)), (1, .int f), (2, .int z), (3, .int y), (4, .int u), (5, .int p)] (.int (nI (N2 12 (N2 16 0))) :: [])
        refine ga_iconst X (v := 1) dX1_ask_148 (by decide) ?_
        refine ga_isub X dX1_ask_149 ?_
        exact ga_iret X Y dX1_ask_150 (by first | decide | omega | (dsimp only; omega)) (by first | decide | omega | (dsimp only; omega)) ⟨by unfold ct_ask; rw [if_pos hp_1, if_pos hp_2, if_pos hp_3], congrArg (fun z => some (Value.int z)) (show (nI (N2 12 (N2 16 0))) - 1 = cd_ask τ N f z y u p from by unfold cd_ask; rw [e16, ekl, nI_pred]), by omega, k4, L2, (show gc_P G L2 (cn_ask τ N f z y u p) (cu_ask τ N f z y u p) n h by unfold cu_ask cn_ask; rw [← ht9, ← hN2]; exact hP), (show gc_G L N L2 (cn_ask τ N f z y u p) n1 by unfold cn_ask; rw [← hN2]; exact hn01 ▸ k3), k6 0 0 rfl (by omega)⟩
      refine ga_if_ne X (tgt := 105) dX1_ask_71 (by decide) (fun c_71 => ?_) (fun c_71 => ?_)
      · refine ga_iconst X (v := 0) dX1_ask_105 (by decide) ?_
        exact J106 _ ((bI_f (fun hh => c_71 hh.1)).symm)
      · refine ga_aload_n X 0 dX1_ask_74 rfl rfl ?_
        refine ga_get X in_X1 (ci := 0) rfl 1 (by decide) q189 rfl hP.r0 rfl dX1_ask_75 ?_
        refine ga_getN X in_X2 (ci := 1) rfl 6 (by decide) q155 rfl (hP.r36 (Nat.le_refl _)) rfl dX1_ask_78 ?_
        refine ga_ifnonnullI X (tgt := 105) dX1_ask_81 (by decide) (fun c_81 => ?_) (fun c_81 => ?_)
        · refine ga_iconst X (v := 0) dX1_ask_105 (by decide) ?_
          exact J106 _ ((bI_f (fun hh => (fun hh => c_81 hh.1) hh.2)).symm)
        · refine ga_aload_n X 0 dX1_ask_84 rfl rfl ?_
          refine ga_get X in_X1 (ci := 0) rfl 1 (by decide) q189 rfl hP.r0 rfl dX1_ask_85 ?_
          refine ga_getN X in_X2 (ci := 1) rfl 2 (by decide) q148 rfl (hP.r36 (Nat.le_refl _)) rfl dX1_ask_88 ?_
          refine ga_callF X Y (jm_size _ X.tr G (L 12 (N 16 0)) (gc_e G L N 12 (N 16 0)) (N 12 (N 16 0)) (τ 1200 (N 16 0)) _ _ (hP.r12 (Nat.le_refl _))) wX1_70 (ci := 11) rfl (hP.r12 (Nat.le_refl _)) ⟨Nat.le_of_ble_eq_true rfl, Nat.le_of_ble_eq_true rfl⟩ ⟨(by first | decide | omega | (dsimp only; omega)), (by first | decide | omega | (dsimp only; omega))⟩ rfl (Nat.le_of_ble_eq_true rfl) dX1_ask_91 (fun v9 h9 n9 hq _ => ?_) (fun _ _ _ q _ => q.elim)
          obtain ⟨rfl, hq2, hq3⟩ := hq
          rw [hq2, hq3]
          show ga Γ G _ _ _ _ 96 [(0, .ref (L 0 0)), (1, .int f), (2, .int z), (3, .int y), (4, .int u), (5, .int p)] (.int (nI (N 12 (N 16 0))) :: [])
          refine ga_bipush X (v := 20) dX1_ask_96 (by decide) ?_
          refine ga_icmp_ge X (tgt := 105) dX1_ask_98 (by decide) (fun c_98 => ?_) (fun c_98 => ?_)
          · refine ga_iconst X (v := 0) dX1_ask_105 (by decide) ?_
            exact J106 _ ((bI_f (fun hh => (fun hh => (fun hh => hh c_98) hh.2) hh.2)).symm)
          · refine ga_iconst X (v := 1) dX1_ask_101 (by decide) ?_
            refine ga_goto X (tgt := 106) dX1_ask_102 (by decide) ?_
            exact J106 _ ((bI_t ⟨c_71, ⟨c_81, c_98⟩⟩).symm)
    refine ga_icmp_eq X (tgt := 61) dX1_ask_31 (by decide) (fun c_31 => ?_) (fun c_31 => ?_)
    · refine ga_iconst X (v := 0) dX1_ask_61 (by decide) ?_
      exact J62 _ ((bI_f (fun hh => hh.1 c_31)).symm)
    · refine ga_iload X 4 dX1_ask_34 rfl ?_
      refine ga_iconst X (v := 1) dX1_ask_36 (by decide) ?_
      refine ga_bipush X (v := 10) dX1_ask_37 (by decide) ?_
      refine gp_callS X Y (cs_isIn _ X.tr G u 1 10) wX1_46 ⟨rfl, rfl⟩ ⟨by decide, by decide⟩ ⟨(by first | decide | omega | (dsimp only; omega)), (by first | decide | omega | (dsimp only; omega))⟩ rfl (Nat.le_of_ble_eq_true rfl) dX1_ask_39 ?_
      refine ga_ifb_eq X (tgt := 61) dX1_ask_42 (by decide) (fun c_42 => ?_) (fun c_42 => ?_)
      · refine ga_iconst X (v := 0) dX1_ask_61 (by decide) ?_
        exact J62 _ ((bI_f (fun hh => (fun hh => c_42 hh.1) hh.2)).symm)
      · refine ga_iload X 5 dX1_ask_45 rfl ?_
        refine ga_iconst X (v := 0) dX1_ask_47 (by decide) ?_
        refine ga_sipush X (v := 500) dX1_ask_48 (by decide) ?_
        refine gp_callS X Y (cs_isIn _ X.tr G p 0 500) wX1_46 ⟨rfl, rfl⟩ ⟨by decide, by decide⟩ ⟨(by first | decide | omega | (dsimp only; omega)), (by first | decide | omega | (dsimp only; omega))⟩ rfl (Nat.le_of_ble_eq_true rfl) dX1_ask_51 ?_
        refine ga_ifb_eq X (tgt := 61) dX1_ask_54 (by decide) (fun c_54 => ?_) (fun c_54 => ?_)
        · refine ga_iconst X (v := 0) dX1_ask_61 (by decide) ?_
          exact J62 _ ((bI_f (fun hh => (fun hh => c_54 hh.2) hh.2)).symm)
        · refine ga_iconst X (v := 1) dX1_ask_57 (by decide) ?_
          refine ga_goto X (tgt := 62) dX1_ask_58 (by decide) ?_
          exact J62 _ ((bI_t ⟨c_31, ⟨c_42, c_54⟩⟩).symm)
  refine ga_ifb_eq X (tgt := 25) dX1_ask_4 (by decide) (fun c_4 => ?_) (fun c_4 => ?_)
  · refine ga_iconst X (v := 0) dX1_ask_25 (by decide) ?_
    exact J26 _ ((bI_f (fun hh => c_4 hh.1)).symm)
  · refine ga_iload_n X 2 dX1_ask_7 rfl rfl ?_
    refine gp_callS X Y (cs_isZone _ X.tr G z) wX1_61 ⟨rfl, rfl⟩ ⟨by decide, by decide⟩ ⟨(by first | decide | omega | (dsimp only; omega)), (by first | decide | omega | (dsimp only; omega))⟩ rfl (Nat.le_of_ble_eq_true rfl) dX1_ask_8 ?_
    refine ga_ifb_eq X (tgt := 25) dX1_ask_11 (by decide) (fun c_11 => ?_) (fun c_11 => ?_)
    · refine ga_iconst X (v := 0) dX1_ask_25 (by decide) ?_
      exact J26 _ ((bI_f (fun hh => (fun hh => c_11 hh.1) hh.2)).symm)
    · refine ga_iload_n X 3 dX1_ask_14 rfl rfl ?_
      refine gp_callS X Y (cs_isZone _ X.tr G y) wX1_61 ⟨rfl, rfl⟩ ⟨by decide, by decide⟩ ⟨(by first | decide | omega | (dsimp only; omega)), (by first | decide | omega | (dsimp only; omega))⟩ rfl (Nat.le_of_ble_eq_true rfl) dX1_ask_15 ?_
      refine ga_ifb_eq X (tgt := 25) dX1_ask_18 (by decide) (fun c_18 => ?_) (fun c_18 => ?_)
      · refine ga_iconst X (v := 0) dX1_ask_25 (by decide) ?_
        exact J26 _ ((bI_f (fun hh => (fun hh => c_18 hh.2) hh.2)).symm)
      · refine ga_iconst X (v := 1) dX1_ask_21 (by decide) ?_
        refine ga_goto X (tgt := 26) dX1_ask_22 (by decide) ?_
        exact J26 _ ((bI_t ⟨c_4, ⟨c_11, c_18⟩⟩).symm)
def ct_aid (τ : gm_S) (N : gc_L) (f y b p u : Int32) : Int32 := if (0 ≤ f ∧ f ≤ 5) ∧ (0 ≤ y ∧ y ≤ 3) then (if (0 ≤ p ∧ p ≤ 300) ∧ (1 ≤ u ∧ u ≤ 10) then (if ((τ 600 (cx f)) = 0) ∧ (¬ (30 ≤ (nI (N 15 (N 16 0))))) then 0 else 3) else 2) else 1
def cd_aid (τ : gm_S) (N : gc_L) (f y b p u : Int32) : Int32 := nI (N 15 (N 16 0))
def cu_aid (τ : gm_S) (N : gc_L) (f y b p u : Int32) : gm_S := up2 (up2 (up2 (up2 (up2 (up2 τ 3500 (1024 * (N 16 0) + N 15 (N 16 0)) f) 3501 (1024 * (N 16 0) + N 15 (N 16 0)) y) 3502 (1024 * (N 16 0) + N 15 (N 16 0)) b) 3503 (1024 * (N 16 0) + N 15 (N 16 0)) p) 3504 (1024 * (N 16 0) + N 15 (N 16 0)) u) (100 * 15) (N 16 0) (τ (100 * 15) (N 16 0) + 1)
def cn_aid (τ : gm_S) (N : gc_L) (f y b p u : Int32) : gc_L := up3 (up3 N 15 (N 16 0) (N 15 (N 16 0) + 1)) (15 + 10) (N 16 0) (gc_cap (N 15 (N 16 0)) (N (15 + 10) (N 16 0)))
set_option maxHeartbeats 4000000 in
theorem cm_aid (l : Launch) (hl : l.stackTraces = false) (G : ga_X) (L N : gc_L) (τ : gm_S) (f y b p u : Int32) (hb : b = 0 ∨ b = 1) : gn_C l G yX1_aid cX1_aid 6 (some FieldType.int) ({ frames := 9, cells := 6, slots := 960, locals := 400 } : Room) [.ref (L 0 0), .int f, .int y, .int b, .int p, .int u] L N τ (ct_aid τ N f y b p u) (some (.int (cd_aid τ N f y b p u))) (cn_aid τ N f y b p u) (cu_aid τ N f y b p u) := by
  refine gn_start RX1 hl rfl (by decide) (Nat.le_of_ble_eq_true rfl) (fun Γ h1 h n0 n1 n e X Y hP hn hF hn1 hn01 hxt => ?_)
  subst e
  show ga Γ G h n 0 0 0 [(0, .ref (L 0 0)), (1, .int f), (2, .int y), (3, .int b), (4, .int p), (5, .int u)] []
  refine ga_iload_n X 1 dX1_aid_0 rfl rfl ?_
  refine gp_callS X Y (cs_isFirm _ X.tr G f) wX1_37 ⟨rfl, rfl⟩ ⟨by decide, by decide⟩ ⟨(by first | decide | omega | (dsimp only; omega)), (by first | decide | omega | (dsimp only; omega))⟩ rfl (Nat.le_of_ble_eq_true rfl) dX1_aid_1 ?_
  have J19 : ∀ (v19 : Int32), v19 = (bI ((0 ≤ f ∧ f ≤ 5) ∧ (0 ≤ y ∧ y ≤ 3))) → ga Γ G h n 0 0 19 [(0, .ref (L 0 0)), (1, .int f), (2, .int y), (3, .int b), (4, .int p), (5, .int u)] (.int v19 :: []) := by
    intro v19 ev19
    subst ev19
    refine ga_callS X Y (cm_place _ X.tr G ((0 ≤ f ∧ f ≤ 5) ∧ (0 ≤ y ∧ y ≤ 3)) _ _) wX1_41 ⟨Nat.le_of_ble_eq_true rfl, Nat.le_of_ble_eq_true rfl⟩ ⟨(by first | decide | omega | (dsimp only; omega)), (by first | decide | omega | (dsimp only; omega))⟩ rfl (Nat.le_of_ble_eq_true rfl) dX1_aid_19 (fun v9 h9 n9 hq _ => ?_) (fun E9 h9 n9 hq _ => ?_)
    rotate_left
    · obtain ⟨hc, rfl, hq2, hq3⟩ := hq
      exact ga_out X Y (fun x hx => (hxt x hx).elim) (by first | decide | omega | (dsimp only; omega)) (by first | decide | omega | (dsimp only; omega)) ⟨by unfold ct_aid; rw [if_neg hc]; decide, by unfold ct_aid; rw [if_neg hc]; rfl, Nat.le_trans hn1 hq3, by rw [hq2]; exact hF⟩
    obtain ⟨hp_1, rfl, hq2, hq3⟩ := hq
    rw [hq2, hq3]
    refine ga_widen (k2 := 1) (n2 := 6) (by first | decide | omega | (dsimp only; omega)) (by first | decide | omega | (dsimp only; omega)) ?_
    show ga Γ G _ _ _ _ 22 [(0, .ref (L 0 0)), (1, .int f), (2, .int y), (3, .int b), (4, .int p), (5, .int u)] ([])
    have rl_1 := cx_lt hp_1.1 (m := 6) (by decide) (by decide)
    refine ga_iload X 4 dX1_aid_22 rfl ?_
    refine ga_iconst X (v := 0) dX1_aid_24 (by decide) ?_
    refine ga_sipush X (v := 300) dX1_aid_25 (by decide) ?_
    refine gp_callS X Y (cs_isIn _ X.tr G p 0 300) wX1_46 ⟨rfl, rfl⟩ ⟨by decide, by decide⟩ ⟨(by first | decide | omega | (dsimp only; omega)), (by first | decide | omega | (dsimp only; omega))⟩ rfl (Nat.le_of_ble_eq_true rfl) dX1_aid_28 ?_
    have J50 : ∀ (v50 : Int32), v50 = (bI ((0 ≤ p ∧ p ≤ 300) ∧ (1 ≤ u ∧ u ≤ 10))) → ga Γ G h n 1 6 50 [(0, .ref (L 0 0)), (1, .int f), (2, .int y), (3, .int b), (4, .int p), (5, .int u)] (.int v50 :: []) := by
      intro v50 ev50
      subst ev50
      refine ga_callS X Y (cm_check _ X.tr G ((0 ≤ p ∧ p ≤ 300) ∧ (1 ≤ u ∧ u ≤ 10)) _ _) wX1_50 ⟨Nat.le_of_ble_eq_true rfl, Nat.le_of_ble_eq_true rfl⟩ ⟨(by first | decide | omega | (dsimp only; omega)), (by first | decide | omega | (dsimp only; omega))⟩ rfl (Nat.le_of_ble_eq_true rfl) dX1_aid_50 (fun v9 h9 n9 hq _ => ?_) (fun E9 h9 n9 hq _ => ?_)
      rotate_left
      · obtain ⟨hc, rfl, hq2, hq3⟩ := hq
        exact ga_out X Y (fun x hx => (hxt x hx).elim) (by first | decide | omega | (dsimp only; omega)) (by first | decide | omega | (dsimp only; omega)) ⟨by unfold ct_aid; rw [if_pos hp_1, if_neg hc]; decide, by unfold ct_aid; rw [if_pos hp_1, if_neg hc]; rfl, Nat.le_trans hn1 hq3, by rw [hq2]; exact hF⟩
      obtain ⟨hp_2, rfl, hq2, hq3⟩ := hq
      rw [hq2, hq3]
      refine ga_widen (k2 := 2) (n2 := 12) (by first | decide | omega | (dsimp only; omega)) (by first | decide | omega | (dsimp only; omega)) ?_
      show ga Γ G _ _ _ _ 53 [(0, .ref (L 0 0)), (1, .int f), (2, .int y), (3, .int b), (4, .int p), (5, .int u)] ([])
      refine ga_aload_n X 0 dX1_aid_53 rfl rfl ?_
      refine ga_get X in_X1 (ci := 0) rfl 5 (by decide) q193 rfl hP.r0 rfl dX1_aid_54 ?_
      refine ga_iload_n X 1 dX1_aid_57 rfl rfl ?_
      refine ga_zald X (cx f) (cx_e hp_1.1) (by omega) (by decide) hP.r6.1 dX1_aid_58 ?_
      have J84 : ∀ (v84 : Int32), v84 = (bI (((τ 600 (cx f)) = 0) ∧ (¬ (30 ≤ (nI (N 15 (N 16 0))))))) → ga Γ G h n 2 12 84 [(0, .ref (L 0 0)), (1, .int f), (2, .int y), (3, .int b), (4, .int p), (5, .int u)] (.int v84 :: []) := by
        intro v84 ev84
        subst ev84
        refine ga_callS X Y (cm_allow _ X.tr G (((τ 600 (cx f)) = 0) ∧ (¬ (30 ≤ (nI (N 15 (N 16 0)))))) _ _) wX1_54 ⟨Nat.le_of_ble_eq_true rfl, Nat.le_of_ble_eq_true rfl⟩ ⟨(by first | decide | omega | (dsimp only; omega)), (by first | decide | omega | (dsimp only; omega))⟩ rfl (Nat.le_of_ble_eq_true rfl) dX1_aid_84 (fun v9 h9 n9 hq _ => ?_) (fun E9 h9 n9 hq _ => ?_)
        rotate_left
        · obtain ⟨hc, rfl, hq2, hq3⟩ := hq
          exact ga_out X Y (fun x hx => (hxt x hx).elim) (by first | decide | omega | (dsimp only; omega)) (by first | decide | omega | (dsimp only; omega)) ⟨by unfold ct_aid; rw [if_pos hp_1, if_pos hp_2, if_neg hc]; decide, by unfold ct_aid; rw [if_pos hp_1, if_pos hp_2, if_neg hc]; rfl, Nat.le_trans hn1 hq3, by rw [hq2]; exact hF⟩
        obtain ⟨hp_3, rfl, hq2, hq3⟩ := hq
        rw [hq2, hq3]
        refine ga_widen (k2 := 3) (n2 := 18) (by first | decide | omega | (dsimp only; omega)) (by first | decide | omega | (dsimp only; omega)) ?_
        show ga Γ G _ _ _ _ 87 [(0, .ref (L 0 0)), (1, .int f), (2, .int y), (3, .int b), (4, .int p), (5, .int u)] ([])
        refine ga_aload_n X 0 dX1_aid_87 rfl rfl ?_
        refine ga_get X in_X1 (ci := 0) rfl 1 (by decide) q189 rfl hP.r0 rfl dX1_aid_88 ?_
        refine ga_getN X in_X2 (ci := 1) rfl 5 (by decide) q154 rfl (hP.r36 (Nat.le_refl _)) rfl dX1_aid_91 ?_
        refine ga_new X Y in_X13 tyX13 tyX13_ok (ci := 10) rfl q1241 q1242 q91 (fs := [.int 0, .int 0, .int 0, .int 0, .int 0]) rfl (by first | decide | omega | (dsimp only; omega)) (by first | decide | omega | (dsimp only; omega)) dX1_aid_94 ?_
        refine ga_widen (k2 := 4) (n2 := 23) (by first | decide | omega | (dsimp only; omega)) (by first | decide | omega | (dsimp only; omega)) ?_
        refine gq_al (P := fun t h n => ga Γ G h n 4 23 97 [(0, .ref (L 0 0)), (1, .int f), (2, .int y), (3, .int b), (4, .int p), (5, .int u)] (.ref t :: .ref (L 15 (N 16 0)) :: [])) hP hn hF hn1 (fun t97 h n hP hn hF hn1 hk ht_t97 hl_t97 ha_t97 hb_t97 he_t97 => ?_)
        refine ga_dup X dX1_aid_97 rfl ?_
        refine ga_iload_n X 1 dX1_aid_98 rfl rfl ?_
        refine ga_iload_n X 2 dX1_aid_99 rfl rfl ?_
        refine ga_iload_n X 3 dX1_aid_100 rfl rfl ?_
        refine ga_iload X 4 dX1_aid_101 rfl ?_
        refine ga_iload X 5 dX1_aid_103 rfl ?_
        refine ga_callI X Y (ci_X13 _ X.tr G t97 f y b p u _ _ ht_t97 (Nat.le_trans hP.G hb_t97) hb) wX1_157 ⟨Nat.le_of_ble_eq_true rfl, Nat.le_of_ble_eq_true rfl⟩ ⟨(by first | decide | omega | (dsimp only; omega)), (by first | decide | omega | (dsimp only; omega))⟩ rfl (Nat.le_of_ble_eq_true rfl) dX1_aid_105 (fun v9 h9 n9 hq _ => ?_)
        obtain ⟨rfl, hq2, hq3⟩ := hq
        rw [hq2, hq3]
        refine ga_widen (k2 := 4) (n2 := 23) (by first | decide | omega | (dsimp only; omega)) (by first | decide | omega | (dsimp only; omega)) ?_
        show ga Γ G _ _ _ _ 108 [(0, .ref (L 0 0)), (1, .int f), (2, .int y), (3, .int b), (4, .int p), (5, .int u)] (.ref t97 :: .ref (L 15 (N 16 0)) :: [])
        refine gq_up (P := fun h => ga Γ G h n 4 23 108 [(0, .ref (L 0 0)), (1, .int f), (2, .int y), (3, .int b), (4, .int p), (5, .int u)] (.ref t97 :: .ref (L 15 (N 16 0)) :: [])) hP hF hb_t97 ha_t97 (fun h hP hF ht_t97 hk => ?_)
        have hF : gc_V1 L N n0 n1 h1 h := gc_V1.of hF
        refine gn_addrow (kl := 15) (τ' := up2 (up2 (up2 (up2 (up2 τ 3500 (1024 * (N 16 0) + N 15 (N 16 0)) f) 3501 (1024 * (N 16 0) + N 15 (N 16 0)) y) 3502 (1024 * (N 16 0) + N 15 (N 16 0)) b) 3503 (1024 * (N 16 0) + N 15 (N 16 0)) p) 3504 (1024 * (N 16 0) + N 15 (N 16 0)) u) (N1 := N) X Y hP hn hF.1 (by omega) wX1_81 (Or.inr (Or.inr (Or.inr (Or.inr rfl)))) (Nat.le_refl _) (Nat.lt_of_not_le fun z => hp_3.2 ((nI_leI (a := 30) (by omega) (by have := gc_mx_P (d := N 16 0) hP (kl := 15) (by omega); omega)).mpr z)) (fun _ _ _ _ => rfl) (fun _ _ => ⟨rfl, rfl⟩) ht_t97 hb_t97 hl_t97 (Or.inl ⟨10, _, _, ht_t97, rfl, Or.inr q1983⟩) (fun key j hc => (up2_ne (by omega)).trans ((up2_ne (by omega)).trans ((up2_ne (by omega)).trans ((up2_ne (by omega)).trans (up2_ne (by omega)))))) (fun L2 N2 _ _ _ _ => by simp [gc_ok, up2, upd]) ⟨Nat.le_of_ble_eq_true rfl, Nat.le_of_ble_eq_true rfl⟩ ⟨(by first | decide | omega | (dsimp only; omega)), (by first | decide | omega | (dsimp only; omega))⟩ (Nat.le_of_ble_eq_true rfl) dX1_aid_108 (fun L2 h n k2 k3 k4 k5 k6 => ?_)
        obtain ⟨t9, ht9⟩ : ∃ t9 : gm_S, t9 = up2 (up2 (up2 (up2 (up2 (up2 τ 3500 (1024 * (N 16 0) + N 15 (N 16 0)) f) 3501 (1024 * (N 16 0) + N 15 (N 16 0)) y) 3502 (1024 * (N 16 0) + N 15 (N 16 0)) b) 3503 (1024 * (N 16 0) + N 15 (N 16 0)) p) 3504 (1024 * (N 16 0) + N 15 (N 16 0)) u) (100 * 15) (N 16 0) (τ (100 * 15) (N 16 0) + 1) := ⟨_, rfl⟩
        obtain ⟨N2, hN2⟩ : ∃ N2 : gc_L, N2 = up3 (up3 N 15 (N 16 0) (N 15 (N 16 0) + 1)) (15 + 10) (N 16 0) (gc_cap (N 15 (N 16 0)) (N (15 + 10) (N 16 0))) := ⟨_, rfl⟩
        rw [← ht9, ← hN2] at k2
        rw [← hN2] at k3
        have hP := k2
        have e16 : N2 16 0 = N 16 0 := by rw [hN2]; exact (up3_n (by omega)).trans (up3_n (by omega))
        have ekl : N2 15 (N 16 0) = N 15 (N 16 0) + 1 := by rw [hN2]; exact (up3_n (by omega)).trans up3_s
        refine ga_lv (lv' := [(0, .ref (L2 0 0)), (1, .int f), (2, .int y), (3, .int b), (4, .int p), (5, .int u)]) (by rw [k6 0 0 rfl (by omega)]) ?_
        refine ga_pop X dX1_aid_113 rfl ?_
        refine ga_aload_n X 0 dX1_aid_114 rfl rfl ?_
        refine ga_get X in_X1 (ci := 0) rfl 1 (by decide) q189 rfl hP.r0 rfl dX1_aid_115 ?_
        refine ga_getN X in_X2 (ci := 1) rfl 5 (by decide) q154 rfl (hP.r36 (Nat.le_refl _)) rfl dX1_aid_118 ?_
        refine ga_callF X Y (jm_size _ X.tr G (L2 15 (N2 16 0)) (gc_e G L2 N2 15 (N2 16 0)) (N2 15 (N2 16 0)) (t9 1500 (N2 16 0)) _ _ (hP.r15 (Nat.le_refl _))) wX1_70 (ci := 11) rfl (hP.r15 (Nat.le_refl _)) ⟨Nat.le_of_ble_eq_true rfl, Nat.le_of_ble_eq_true rfl⟩ ⟨(by first | decide | omega | (dsimp only; omega)), (by first | decide | omega | (dsimp only; omega))⟩ rfl (Nat.le_of_ble_eq_true rfl) dX1_aid_121 (fun v9 h9 n9 hq _ => ?_) (fun _ _ _ q _ => q.elim)
        obtain ⟨rfl, hq2, hq3⟩ := hq
        rw [hq2, hq3]
        show ga Γ G _ _ _ _ 126 [(0, .ref (L2 0 0)), (1, .int f), (2, .int y), (3, .int b), (4, .int p), (5, .int u)] (.int (nI (N2 15 (N2 16 0))) :: [])
        refine ga_iconst X (v := 1) dX1_aid_126 (by decide) ?_
        refine ga_isub X dX1_aid_127 ?_
        exact ga_iret X Y dX1_aid_128 (by first | decide | omega | (dsimp only; omega)) (by first | decide | omega | (dsimp only; omega)) ⟨by unfold ct_aid; rw [if_pos hp_1, if_pos hp_2, if_pos hp_3], congrArg (fun z => some (Value.int z)) (show (nI (N2 15 (N2 16 0))) - 1 = cd_aid τ N f y b p u from by unfold cd_aid; rw [e16, ekl, nI_pred]), by omega, k4, L2, (show gc_P G L2 (cn_aid τ N f y b p u) (cu_aid τ N f y b p u) n h by unfold cu_aid cn_aid; rw [← ht9, ← hN2]; exact hP), (show gc_G L N L2 (cn_aid τ N f y b p u) n1 by unfold cn_aid; rw [← hN2]; exact hn01 ▸ k3), k6 0 0 rfl (by omega)⟩
      refine ga_if_ne X (tgt := 83) dX1_aid_59 (by decide) (fun c_59 => ?_) (fun c_59 => ?_)
      · refine ga_iconst X (v := 0) dX1_aid_83 (by decide) ?_
        exact J84 _ ((bI_f (fun hh => c_59 hh.1)).symm)
      · refine ga_aload_n X 0 dX1_aid_62 rfl rfl ?_
        refine ga_get X in_X1 (ci := 0) rfl 1 (by decide) q189 rfl hP.r0 rfl dX1_aid_63 ?_
        refine ga_getN X in_X2 (ci := 1) rfl 5 (by decide) q154 rfl (hP.r36 (Nat.le_refl _)) rfl dX1_aid_66 ?_
        refine ga_callF X Y (jm_size _ X.tr G (L 15 (N 16 0)) (gc_e G L N 15 (N 16 0)) (N 15 (N 16 0)) (τ 1500 (N 16 0)) _ _ (hP.r15 (Nat.le_refl _))) wX1_70 (ci := 11) rfl (hP.r15 (Nat.le_refl _)) ⟨Nat.le_of_ble_eq_true rfl, Nat.le_of_ble_eq_true rfl⟩ ⟨(by first | decide | omega | (dsimp only; omega)), (by first | decide | omega | (dsimp only; omega))⟩ rfl (Nat.le_of_ble_eq_true rfl) dX1_aid_69 (fun v9 h9 n9 hq _ => ?_) (fun _ _ _ q _ => q.elim)
        obtain ⟨rfl, hq2, hq3⟩ := hq
        rw [hq2, hq3]
        show ga Γ G _ _ _ _ 74 [(0, .ref (L 0 0)), (1, .int f), (2, .int y), (3, .int b), (4, .int p), (5, .int u)] (.int (nI (N 15 (N 16 0))) :: [])
        refine ga_bipush X (v := 30) dX1_aid_74 (by decide) ?_
        refine ga_icmp_ge X (tgt := 83) dX1_aid_76 (by decide) (fun c_76 => ?_) (fun c_76 => ?_)
        · refine ga_iconst X (v := 0) dX1_aid_83 (by decide) ?_
          exact J84 _ ((bI_f (fun hh => (fun hh => hh c_76) hh.2)).symm)
        · refine ga_iconst X (v := 1) dX1_aid_79 (by decide) ?_
          refine ga_goto X (tgt := 84) dX1_aid_80 (by decide) ?_
          exact J84 _ ((bI_t ⟨c_59, c_76⟩).symm)
    refine ga_ifb_eq X (tgt := 49) dX1_aid_31 (by decide) (fun c_31 => ?_) (fun c_31 => ?_)
    · refine ga_iconst X (v := 0) dX1_aid_49 (by decide) ?_
      exact J50 _ ((bI_f (fun hh => c_31 hh.1)).symm)
    · refine ga_iload X 5 dX1_aid_34 rfl ?_
      refine ga_iconst X (v := 1) dX1_aid_36 (by decide) ?_
      refine ga_bipush X (v := 10) dX1_aid_37 (by decide) ?_
      refine gp_callS X Y (cs_isIn _ X.tr G u 1 10) wX1_46 ⟨rfl, rfl⟩ ⟨by decide, by decide⟩ ⟨(by first | decide | omega | (dsimp only; omega)), (by first | decide | omega | (dsimp only; omega))⟩ rfl (Nat.le_of_ble_eq_true rfl) dX1_aid_39 ?_
      refine ga_ifb_eq X (tgt := 49) dX1_aid_42 (by decide) (fun c_42 => ?_) (fun c_42 => ?_)
      · refine ga_iconst X (v := 0) dX1_aid_49 (by decide) ?_
        exact J50 _ ((bI_f (fun hh => c_42 hh.2)).symm)
      · refine ga_iconst X (v := 1) dX1_aid_45 (by decide) ?_
        refine ga_goto X (tgt := 50) dX1_aid_46 (by decide) ?_
        exact J50 _ ((bI_t ⟨c_31, c_42⟩).symm)
  refine ga_ifb_eq X (tgt := 18) dX1_aid_4 (by decide) (fun c_4 => ?_) (fun c_4 => ?_)
  · refine ga_iconst X (v := 0) dX1_aid_18 (by decide) ?_
    exact J19 _ ((bI_f (fun hh => c_4 hh.1)).symm)
  · refine ga_iload_n X 2 dX1_aid_7 rfl rfl ?_
    refine gp_callS X Y (cs_isHour _ X.tr G y) wX1_64 ⟨rfl, rfl⟩ ⟨by decide, by decide⟩ ⟨(by first | decide | omega | (dsimp only; omega)), (by first | decide | omega | (dsimp only; omega))⟩ rfl (Nat.le_of_ble_eq_true rfl) dX1_aid_8 ?_
    refine ga_ifb_eq X (tgt := 18) dX1_aid_11 (by decide) (fun c_11 => ?_) (fun c_11 => ?_)
    · refine ga_iconst X (v := 0) dX1_aid_18 (by decide) ?_
      exact J19 _ ((bI_f (fun hh => c_11 hh.2)).symm)
    · refine ga_iconst X (v := 1) dX1_aid_14 (by decide) ?_
      refine ga_goto X (tgt := 19) dX1_aid_15 (by decide) ?_
      exact J19 _ ((bI_t ⟨c_4, c_11⟩).symm)
