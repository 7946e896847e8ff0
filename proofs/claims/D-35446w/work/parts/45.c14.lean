set_option maxRecDepth 100000
theorem iw_c {τ : gm_S} {f g : Nat → Int32} (h : ∀ z, z < 3 → f z = g z) : cd_isWithin τ f = cd_isWithin τ g := by
  have q : ∀ i, cd_iwL τ f i = cd_iwL τ g i := fun i => by
    induction i with
    | zero => rfl
    | succ i ih => rw [cd_iwL_s, cd_iwL_s, ih, cf_flow_c h]
  exact q 3
theorem mv_back {τ : gm_S} {k i j : Nat} : up2 (up2 (up2 (up2 τ k i (τ k i + 1)) k j (up2 τ k i (τ k i + 1) k j - 1)) k i (up2 (up2 τ k i (τ k i + 1)) k j (up2 τ k i (τ k i + 1) k j - 1) k i - 1)) k j (up2 (up2 (up2 τ k i (τ k i + 1)) k j (up2 τ k i (τ k i + 1) k j - 1)) k i (up2 (up2 τ k i (τ k i + 1)) k j (up2 τ k i (τ k i + 1) k j - 1) k i - 1) k j + 1) = τ := by
  funext a b
  by_cases e : a = k
  · subst e
    simp only [up2_at]
    by_cases e1 : b = j
    · subst e1
      by_cases e2 : b = i
      · subst e2; simp [Int32.add_sub_cancel, Int32.sub_add_cancel]
      · have e3 : ¬ i = b := fun z => e2 z.symm
        simp only [if_pos, if_neg e2, if_neg e3, Int32.sub_add_cancel]
    · by_cases e2 : b = i
      · subst e2
        simp only [if_pos, if_neg e1, Int32.add_sub_cancel]
      · simp only [if_neg e1, if_neg e2]
  · simp only [up2_n e]
def cu_move (τ : gm_S) (N : gc_L) (y f g : Nat) : gm_S := up2 (up2 τ 4200 (3 * (4 * (N 16 0) + y) + f) (τ 4200 (3 * (4 * (N 16 0) + y) + f) + 1)) 4200 (3 * (4 * (N 16 0) + y) + g) (up2 τ 4200 (3 * (4 * (N 16 0) + y) + f) (τ 4200 (3 * (4 * (N 16 0) + y) + f) + 1) 4200 (3 * (4 * (N 16 0) + y) + g) - 1)
abbrev cp_move (τ : gm_S) (N : gc_L) (y f g : Nat) : Prop := ¬ cd_isWithin (cu_move τ N y f g) (fun z => cu_move τ N y f g 4200 (3 * (4 * (N 16 0) + y) + z)) = 0
theorem gc_P.cast {G : ga_X} {L N : gc_L} {τ τ' : gm_S} {n : Nat} {h : ga_H} (hP : gc_P G L N τ n h) (e : τ = τ') : gc_P G L N τ' n h := e ▸ hP
set_option maxHeartbeats 4000000 in
theorem cm_move (l : Launch) (hl : l.stackTraces = false) (G : ga_X) (L N : gc_L) (τ : gm_S) (y f g : Nat) (hy : y < 4) (hf : f < 3) (hg : g < 3) (hr : N 40 (N 16 0) ≠ 0) : gv_C l G yX1_move cX1_move 5 none ({ frames := 5, cells := 1, slots := 6, locals := 80 } : Room) [.ref (L 0 0), .int (nI y), .int (nI f), .int (nI g)] L N τ (cp_move τ N y f g) "GridMarket$Barred" (cu_move τ N y f g) := by
  refine gv_start RX1 hl rfl (by decide) (Nat.le_of_ble_eq_true rfl) (fun Γ h1 h n0 n1 n e X Y hP hn hF hn1 hn01 hxt => ?_)
  subst e
  show ga Γ G h n 0 0 0 [(0, .ref (L 0 0)), (1, .int (nI y)), (2, .int (nI f)), (3, .int (nI g))] []
  refine ga_aload_n X 0 dX1_move_0 rfl rfl ?_
  refine ga_get X in_X1 (ci := 0) rfl 1 (by decide) q189 rfl hP.r0 rfl dX1_move_1 ?_
  refine ga_getN X in_X2 (ci := 1) rfl 6 (by decide) q155 rfl (hP.r36 (Nat.le_refl _)) rfl dX1_move_4 ?_
  refine ga_st (st' := .ref (L 40 (N 16 0)) :: []) (by rw [if_neg hr]) ?_
  refine ga_getN X in_X8 (ci := 7) rfl 0 (by decide) q1012 rfl (hP.r40 (Nat.le_refl _) hr) rfl dX1_move_7 ?_
  refine ga_iload_n X 1 dX1_move_10 rfl rfl ?_
  obtain ⟨f_1, hf_1, hv_1⟩ := hP.r41 (Nat.le_refl _) hr
  refine ga_aald X (k := 6) y rfl (by omega) (by decide) rfl rfl hf_1 dX1_move_11 (show va_rf (f_1 y) = .ref (L 42 (4 * (N 16 0) + y)) by rw [hv_1 y (by omega)]; rfl) ?_
  refine ga_astore X [(4, .ref (L 42 (4 * (N 16 0) + y))), (0, .ref (L 0 0)), (1, .int (nI y)), (2, .int (nI f)), (3, .int (nI g))] dX1_move_12 (by decide) rfl ?_
  refine ga_aload X 0 dX1_move_14 rfl ?_
  refine ga_iload_n X 3 dX1_move_16 rfl rfl ?_
  refine ga_dup2 X dX1_move_17 rfl rfl ?_
  obtain ⟨f_2, hf_2, hv_2⟩ := hP.r42 (Nat.le_refl _) hr (by omega)
  refine ga_iald X f rfl (by omega) (by decide) hf_2 dX1_move_18 ?_
  refine ga_st (st' := .int (τ 4200 (3 * (4 * (N 16 0) + y) + f)) :: .int (nI f) :: .ref (L 42 (4 * (N 16 0) + y)) :: []) (by rw [hv_2 f (by omega)]) ?_
  refine ga_iconst X (v := 1) dX1_move_19 (by decide) ?_
  refine ga_iadd X dX1_move_20 ?_
  obtain ⟨f_3, hf_3, hv_3⟩ := hP.r42 (Nat.le_refl _) hr (by omega)
  refine ga_iast X f rfl (by omega) (by decide) hf_3 (hP.A (hP.l42 (Nat.le_refl _) hr (by omega))) dX1_move_21 ?_
  have hF : gc_V1 L N n0 n1 h1 h := gc_V1.of hF
  refine gs_w (P := fun h => ga Γ G h n 0 0 22 [(4, .ref (L 42 (4 * (N 16 0) + y))), (0, .ref (L 0 0)), (1, .int (nI y)), (2, .int (nI f)), (3, .int (nI g))] ([])) (hP.up1 4200 (3 * (4 * (N 16 0) + y) + f) ((τ 4200 (3 * (4 * (N 16 0) + y) + f)) + 1) (k := 42) (i := (4 * (N 16 0) + y)) rfl (show (3 * (4 * (N 16 0) + y) + f) / 3 = 4 * (N 16 0) + y by omega) (hP.l42 (Nat.le_refl _) hr (by omega)) ⟨upd f_3 f ((τ 4200 (3 * (4 * (N 16 0) + y) + f)) + 1), rfl, gc_row hv_3⟩) (hP.l42 (Nat.le_refl _) hr (by omega)) hF (fun h hP hF hk => ?_)
  refine ga_aload X 0 dX1_move_22 rfl ?_
  refine ga_iload_n X 4 dX1_move_24 rfl rfl ?_
  refine ga_dup2 X dX1_move_25 rfl rfl ?_
  obtain ⟨f_4, hf_4, hv_4⟩ := hP.r42 (Nat.le_refl _) hr (by omega)
  refine ga_iald X g rfl (by omega) (by decide) hf_4 dX1_move_26 ?_
  refine ga_st (st' := .int ((up2 τ 4200 (3 * (4 * (N 16 0) + y) + f) ((τ 4200 (3 * (4 * (N 16 0) + y) + f)) + 1)) 4200 (3 * (4 * (N 16 0) + y) + g)) :: .int (nI g) :: .ref (L 42 (4 * (N 16 0) + y)) :: []) (by rw [hv_4 g (by omega)]) ?_
  refine ga_iconst X (v := 1) dX1_move_27 (by decide) ?_
  refine ga_isub X dX1_move_28 ?_
  obtain ⟨f_5, hf_5, hv_5⟩ := hP.r42 (Nat.le_refl _) hr (by omega)
  refine ga_iast X g rfl (by omega) (by decide) hf_5 (hP.A (hP.l42 (Nat.le_refl _) hr (by omega))) dX1_move_29 ?_
  refine gs_w (P := fun h => ga Γ G h n 0 0 30 [(4, .ref (L 42 (4 * (N 16 0) + y))), (0, .ref (L 0 0)), (1, .int (nI y)), (2, .int (nI f)), (3, .int (nI g))] ([])) (hP.up1 4200 (3 * (4 * (N 16 0) + y) + g) (((up2 τ 4200 (3 * (4 * (N 16 0) + y) + f) ((τ 4200 (3 * (4 * (N 16 0) + y) + f)) + 1)) 4200 (3 * (4 * (N 16 0) + y) + g)) - 1) (k := 42) (i := (4 * (N 16 0) + y)) rfl (show (3 * (4 * (N 16 0) + y) + g) / 3 = 4 * (N 16 0) + y by omega) (hP.l42 (Nat.le_refl _) hr (by omega)) ⟨upd f_5 g (((up2 τ 4200 (3 * (4 * (N 16 0) + y) + f) ((τ 4200 (3 * (4 * (N 16 0) + y) + f)) + 1)) 4200 (3 * (4 * (N 16 0) + y) + g)) - 1), rfl, gc_row hv_5⟩) (hP.l42 (Nat.le_refl _) hr (by omega)) hF (fun h hP hF hk => ?_)
  refine ga_aload_n X 1 dX1_move_30 rfl rfl ?_
  refine ga_aload X 0 dX1_move_31 rfl ?_
  obtain ⟨f_6, hf_6, hv_6⟩ := hP.r42 (Nat.le_refl _) hr (by omega)
  refine ga_callV X Y (cm_isWithin _ X.tr G L N (up2 (up2 τ 4200 (3 * (4 * (N 16 0) + y) + f) ((τ 4200 (3 * (4 * (N 16 0) + y) + f)) + 1)) 4200 (3 * (4 * (N 16 0) + y) + g) (((up2 τ 4200 (3 * (4 * (N 16 0) + y) + f) ((τ 4200 (3 * (4 * (N 16 0) + y) + f)) + 1)) 4200 (3 * (4 * (N 16 0) + y) + g)) - 1)) (L 42 (4 * (N 16 0) + y)) f_6 _ _ _ hP hn hf_6) wX1_273 (ci := 0) rfl hP.r0 ⟨Nat.le_of_ble_eq_true rfl, Nat.le_of_ble_eq_true rfl⟩ ⟨(by first | decide | omega | (dsimp only; omega)), (by first | decide | omega | (dsimp only; omega))⟩ rfl (Nat.le_of_ble_eq_true rfl) dX1_move_33 (fun v9 h9 n9 hq _ => ?_) (fun _ _ _ q _ => q.elim)
  obtain ⟨rfl, hq2, hq3⟩ := hq
  rw [hq2, hq3]
  refine ga_widen (k2 := 0) (n2 := 0) (by first | decide | omega | (dsimp only; omega)) (by first | decide | omega | (dsimp only; omega)) ?_
  show ga Γ G _ _ _ _ 36 [(4, .ref (L 42 (4 * (N 16 0) + y))), (0, .ref (L 0 0)), (1, .int (nI y)), (2, .int (nI f)), (3, .int (nI g))] (.int (cd_isWithin (up2 (up2 τ 4200 (3 * (4 * (N 16 0) + y) + f) ((τ 4200 (3 * (4 * (N 16 0) + y) + f)) + 1)) 4200 (3 * (4 * (N 16 0) + y) + g) (((up2 τ 4200 (3 * (4 * (N 16 0) + y) + f) ((τ 4200 (3 * (4 * (N 16 0) + y) + f)) + 1)) 4200 (3 * (4 * (N 16 0) + y) + g)) - 1)) f_6) :: [])
  refine ga_st (st' := .int (cd_isWithin (up2 (up2 τ 4200 (3 * (4 * (N 16 0) + y) + f) ((τ 4200 (3 * (4 * (N 16 0) + y) + f)) + 1)) 4200 (3 * (4 * (N 16 0) + y) + g) (((up2 τ 4200 (3 * (4 * (N 16 0) + y) + f) ((τ 4200 (3 * (4 * (N 16 0) + y) + f)) + 1)) 4200 (3 * (4 * (N 16 0) + y) + g)) - 1)) (fun z => (up2 (up2 τ 4200 (3 * (4 * (N 16 0) + y) + f) ((τ 4200 (3 * (4 * (N 16 0) + y) + f)) + 1)) 4200 (3 * (4 * (N 16 0) + y) + g) (((up2 τ 4200 (3 * (4 * (N 16 0) + y) + f) ((τ 4200 (3 * (4 * (N 16 0) + y) + f)) + 1)) 4200 (3 * (4 * (N 16 0) + y) + g)) - 1)) 4200 (3 * (4 * (N 16 0) + y) + z))) :: []) (by rw [(iw_c (g := (fun z => (up2 (up2 τ 4200 (3 * (4 * (N 16 0) + y) + f) ((τ 4200 (3 * (4 * (N 16 0) + y) + f)) + 1)) 4200 (3 * (4 * (N 16 0) + y) + g) (((up2 τ 4200 (3 * (4 * (N 16 0) + y) + f) ((τ 4200 (3 * (4 * (N 16 0) + y) + f)) + 1)) 4200 (3 * (4 * (N 16 0) + y) + g)) - 1)) 4200 (3 * (4 * (N 16 0) + y) + z))) (fun z hz => hv_6 z hz))]) ?_
  refine ga_if_ne X (tgt := 63) dX1_move_36 (by decide) (fun c_36 => ?_) (fun c_36 => ?_)
  · exact ga_widen (k2 := 1) (n2 := 6) (by first | decide | omega | (dsimp only; omega)) (by first | decide | omega | (dsimp only; omega)) (ga_vret X Y dX1_move_63 (by decide) (by decide) ⟨c_36, rfl, hn1, hP, hF⟩)
  · refine ga_aload X 0 dX1_move_39 rfl ?_
    refine ga_iload_n X 3 dX1_move_41 rfl rfl ?_
    refine ga_dup2 X dX1_move_42 rfl rfl ?_
    obtain ⟨f_7, hf_7, hv_7⟩ := hP.r42 (Nat.le_refl _) hr (by omega)
    refine ga_iald X f rfl (by omega) (by decide) hf_7 dX1_move_43 ?_
    refine ga_st (st' := .int ((up2 (up2 τ 4200 (3 * (4 * (N 16 0) + y) + f) ((τ 4200 (3 * (4 * (N 16 0) + y) + f)) + 1)) 4200 (3 * (4 * (N 16 0) + y) + g) (((up2 τ 4200 (3 * (4 * (N 16 0) + y) + f) ((τ 4200 (3 * (4 * (N 16 0) + y) + f)) + 1)) 4200 (3 * (4 * (N 16 0) + y) + g)) - 1)) 4200 (3 * (4 * (N 16 0) + y) + f)) :: .int (nI f) :: .ref (L 42 (4 * (N 16 0) + y)) :: []) (by rw [hv_7 f (by omega)]) ?_
    refine ga_iconst X (v := 1) dX1_move_44 (by decide) ?_
    refine ga_isub X dX1_move_45 ?_
    obtain ⟨f_8, hf_8, hv_8⟩ := hP.r42 (Nat.le_refl _) hr (by omega)
    refine ga_iast X f rfl (by omega) (by decide) hf_8 (hP.A (hP.l42 (Nat.le_refl _) hr (by omega))) dX1_move_46 ?_
    refine gs_w (P := fun h => ga Γ G h n 0 0 47 [(4, .ref (L 42 (4 * (N 16 0) + y))), (0, .ref (L 0 0)), (1, .int (nI y)), (2, .int (nI f)), (3, .int (nI g))] ([])) (hP.up1 4200 (3 * (4 * (N 16 0) + y) + f) (((up2 (up2 τ 4200 (3 * (4 * (N 16 0) + y) + f) ((τ 4200 (3 * (4 * (N 16 0) + y) + f)) + 1)) 4200 (3 * (4 * (N 16 0) + y) + g) (((up2 τ 4200 (3 * (4 * (N 16 0) + y) + f) ((τ 4200 (3 * (4 * (N 16 0) + y) + f)) + 1)) 4200 (3 * (4 * (N 16 0) + y) + g)) - 1)) 4200 (3 * (4 * (N 16 0) + y) + f)) - 1) (k := 42) (i := (4 * (N 16 0) + y)) rfl (show (3 * (4 * (N 16 0) + y) + f) / 3 = 4 * (N 16 0) + y by omega) (hP.l42 (Nat.le_refl _) hr (by omega)) ⟨upd f_8 f (((up2 (up2 τ 4200 (3 * (4 * (N 16 0) + y) + f) ((τ 4200 (3 * (4 * (N 16 0) + y) + f)) + 1)) 4200 (3 * (4 * (N 16 0) + y) + g) (((up2 τ 4200 (3 * (4 * (N 16 0) + y) + f) ((τ 4200 (3 * (4 * (N 16 0) + y) + f)) + 1)) 4200 (3 * (4 * (N 16 0) + y) + g)) - 1)) 4200 (3 * (4 * (N 16 0) + y) + f)) - 1), rfl, gc_row hv_8⟩) (hP.l42 (Nat.le_refl _) hr (by omega)) hF (fun h hP hF hk => ?_)
    refine ga_aload X 0 dX1_move_47 rfl ?_
    refine ga_iload_n X 4 dX1_move_49 rfl rfl ?_
    refine ga_dup2 X dX1_move_50 rfl rfl ?_
    obtain ⟨f_9, hf_9, hv_9⟩ := hP.r42 (Nat.le_refl _) hr (by omega)
    refine ga_iald X g rfl (by omega) (by decide) hf_9 dX1_move_51 ?_
    refine ga_st (st' := .int ((up2 (up2 (up2 τ 4200 (3 * (4 * (N 16 0) + y) + f) ((τ 4200 (3 * (4 * (N 16 0) + y) + f)) + 1)) 4200 (3 * (4 * (N 16 0) + y) + g) (((up2 τ 4200 (3 * (4 * (N 16 0) + y) + f) ((τ 4200 (3 * (4 * (N 16 0) + y) + f)) + 1)) 4200 (3 * (4 * (N 16 0) + y) + g)) - 1)) 4200 (3 * (4 * (N 16 0) + y) + f) (((up2 (up2 τ 4200 (3 * (4 * (N 16 0) + y) + f) ((τ 4200 (3 * (4 * (N 16 0) + y) + f)) + 1)) 4200 (3 * (4 * (N 16 0) + y) + g) (((up2 τ 4200 (3 * (4 * (N 16 0) + y) + f) ((τ 4200 (3 * (4 * (N 16 0) + y) + f)) + 1)) 4200 (3 * (4 * (N 16 0) + y) + g)) - 1)) 4200 (3 * (4 * (N 16 0) + y) + f)) - 1)) 4200 (3 * (4 * (N 16 0) + y) + g)) :: .int (nI g) :: .ref (L 42 (4 * (N 16 0) + y)) :: []) (by rw [hv_9 g (by omega)]) ?_
    refine ga_iconst X (v := 1) dX1_move_52 (by decide) ?_
    refine ga_iadd X dX1_move_53 ?_
    obtain ⟨f_10, hf_10, hv_10⟩ := hP.r42 (Nat.le_refl _) hr (by omega)
    refine ga_iast X g rfl (by omega) (by decide) hf_10 (hP.A (hP.l42 (Nat.le_refl _) hr (by omega))) dX1_move_54 ?_
    refine gs_w (P := fun h => ga Γ G h n 0 0 55 [(4, .ref (L 42 (4 * (N 16 0) + y))), (0, .ref (L 0 0)), (1, .int (nI y)), (2, .int (nI f)), (3, .int (nI g))] ([])) (hP.up1 4200 (3 * (4 * (N 16 0) + y) + g) (((up2 (up2 (up2 τ 4200 (3 * (4 * (N 16 0) + y) + f) ((τ 4200 (3 * (4 * (N 16 0) + y) + f)) + 1)) 4200 (3 * (4 * (N 16 0) + y) + g) (((up2 τ 4200 (3 * (4 * (N 16 0) + y) + f) ((τ 4200 (3 * (4 * (N 16 0) + y) + f)) + 1)) 4200 (3 * (4 * (N 16 0) + y) + g)) - 1)) 4200 (3 * (4 * (N 16 0) + y) + f) (((up2 (up2 τ 4200 (3 * (4 * (N 16 0) + y) + f) ((τ 4200 (3 * (4 * (N 16 0) + y) + f)) + 1)) 4200 (3 * (4 * (N 16 0) + y) + g) (((up2 τ 4200 (3 * (4 * (N 16 0) + y) + f) ((τ 4200 (3 * (4 * (N 16 0) + y) + f)) + 1)) 4200 (3 * (4 * (N 16 0) + y) + g)) - 1)) 4200 (3 * (4 * (N 16 0) + y) + f)) - 1)) 4200 (3 * (4 * (N 16 0) + y) + g)) + 1) (k := 42) (i := (4 * (N 16 0) + y)) rfl (show (3 * (4 * (N 16 0) + y) + g) / 3 = 4 * (N 16 0) + y by omega) (hP.l42 (Nat.le_refl _) hr (by omega)) ⟨upd f_10 g (((up2 (up2 (up2 τ 4200 (3 * (4 * (N 16 0) + y) + f) ((τ 4200 (3 * (4 * (N 16 0) + y) + f)) + 1)) 4200 (3 * (4 * (N 16 0) + y) + g) (((up2 τ 4200 (3 * (4 * (N 16 0) + y) + f) ((τ 4200 (3 * (4 * (N 16 0) + y) + f)) + 1)) 4200 (3 * (4 * (N 16 0) + y) + g)) - 1)) 4200 (3 * (4 * (N 16 0) + y) + f) (((up2 (up2 τ 4200 (3 * (4 * (N 16 0) + y) + f) ((τ 4200 (3 * (4 * (N 16 0) + y) + f)) + 1)) 4200 (3 * (4 * (N 16 0) + y) + g) (((up2 τ 4200 (3 * (4 * (N 16 0) + y) + f) ((τ 4200 (3 * (4 * (N 16 0) + y) + f)) + 1)) 4200 (3 * (4 * (N 16 0) + y) + g)) - 1)) 4200 (3 * (4 * (N 16 0) + y) + f)) - 1)) 4200 (3 * (4 * (N 16 0) + y) + g)) + 1), rfl, gc_row hv_10⟩) (hP.l42 (Nat.le_refl _) hr (by omega)) hF (fun h hP hF hk => ?_)
    exact ga_throwB X Y q1181 q1194 dX1_move_55 dX1_move_58 dX1_move_59 dX1_move_62 (fun x hx => (hxt x hx).elim) (by decide) (by decide) (by decide) (by first | decide | omega | (dsimp only; omega)) (by first | decide | omega | (dsimp only; omega)) (Nat.le_trans hP.G hn) (fun n9 hn9 => ⟨fun z => z c_36, rfl, Nat.le_trans hn1 hn9, (show gc_P G L N (up2 (up2 (up2 (up2 τ 4200 (3 * (4 * (N 16 0) + y) + f) ((τ 4200 (3 * (4 * (N 16 0) + y) + f)) + 1)) 4200 (3 * (4 * (N 16 0) + y) + g) (((up2 τ 4200 (3 * (4 * (N 16 0) + y) + f) ((τ 4200 (3 * (4 * (N 16 0) + y) + f)) + 1)) 4200 (3 * (4 * (N 16 0) + y) + g)) - 1)) 4200 (3 * (4 * (N 16 0) + y) + f) (((up2 (up2 τ 4200 (3 * (4 * (N 16 0) + y) + f) ((τ 4200 (3 * (4 * (N 16 0) + y) + f)) + 1)) 4200 (3 * (4 * (N 16 0) + y) + g) (((up2 τ 4200 (3 * (4 * (N 16 0) + y) + f) ((τ 4200 (3 * (4 * (N 16 0) + y) + f)) + 1)) 4200 (3 * (4 * (N 16 0) + y) + g)) - 1)) 4200 (3 * (4 * (N 16 0) + y) + f)) - 1)) 4200 (3 * (4 * (N 16 0) + y) + g) (((up2 (up2 (up2 τ 4200 (3 * (4 * (N 16 0) + y) + f) ((τ 4200 (3 * (4 * (N 16 0) + y) + f)) + 1)) 4200 (3 * (4 * (N 16 0) + y) + g) (((up2 τ 4200 (3 * (4 * (N 16 0) + y) + f) ((τ 4200 (3 * (4 * (N 16 0) + y) + f)) + 1)) 4200 (3 * (4 * (N 16 0) + y) + g)) - 1)) 4200 (3 * (4 * (N 16 0) + y) + f) (((up2 (up2 τ 4200 (3 * (4 * (N 16 0) + y) + f) ((τ 4200 (3 * (4 * (N 16 0) + y) + f)) + 1)) 4200 (3 * (4 * (N 16 0) + y) + g) (((up2 τ 4200 (3 * (4 * (N 16 0) + y) + f) ((τ 4200 (3 * (4 * (N 16 0) + y) + f)) + 1)) 4200 (3 * (4 * (N 16 0) + y) + g)) - 1)) 4200 (3 * (4 * (N 16 0) + y) + f)) - 1)) 4200 (3 * (4 * (N 16 0) + y) + g)) + 1)) n0 h from hP).cast mv_back, hF⟩)
