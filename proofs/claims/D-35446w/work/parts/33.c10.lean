set_option maxRecDepth 100000
theorem gc_V.keep {N : gc_L} {τ τ' : gm_S} (hV : gc_V N τ) (h : ∀ k, k ∈ [3000, 3001, 3002, 3003, 3004, 3005, 3100, 3101, 3102, 3103, 3104, 3105, 3200, 3201, 3202, 3203, 3204, 3300, 3301, 3302, 3303, 3304, 3305, 3500, 3501, 3502, 3503, 3504, 300] → τ' k = τ k) : gc_V N τ' := by
  unfold gc_V at hV ⊢
  rw [h 3000 (by decide), h 3001 (by decide), h 3002 (by decide), h 3003 (by decide), h 3004 (by decide), h 3005 (by decide), h 3100 (by decide), h 3101 (by decide), h 3102 (by decide), h 3103 (by decide), h 3104 (by decide), h 3105 (by decide), h 3200 (by decide), h 3201 (by decide), h 3202 (by decide), h 3203 (by decide), h 3204 (by decide), h 3300 (by decide), h 3301 (by decide), h 3302 (by decide), h 3303 (by decide), h 3304 (by decide), h 3305 (by decide), h 3500 (by decide), h 3501 (by decide), h 3502 (by decide), h 3503 (by decide), h 3504 (by decide), h 300 (by decide)]
  exact hV
theorem gc_V.keepR {N : gc_L} {τ τ' : gm_S} (hV : gc_V N τ) (h : ∀ k, k ≠ 0 → k ≠ 400 → k ≠ 5100 → k ≠ 3600 → τ' k = τ k) : gc_V N τ' := hV.keep (fun k hk => h k (by rintro rfl; revert hk; decide) (by rintro rfl; revert hk; decide) (by rintro rfl; revert hk; decide) (by rintro rfl; revert hk; decide))
def cd_runL (t : gm_S) (N : gc_L) (d : Nat) : Nat → gm_S
  | 0 => t
  | i + 1 => if (t 600 i) = 0 then up2 (up2 (up2 (cd_runL t N d i) 5100 (6 * d + i) (((cd_runL t N d i) 5100 (6 * d + i)) + ((cd_billOf (cd_runL t N d i) N d i) - ((cd_runL t N d i) 5100 (6 * d + i))))) 400 i (((cd_runL t N d i) 400 i) + ((cd_billOf (cd_runL t N d i) N d i) - ((cd_runL t N d i) 5100 (6 * d + i))))) 0 0 (((cd_runL t N d i) 0 0) - ((cd_billOf (cd_runL t N d i) N d i) - ((cd_runL t N d i) 5100 (6 * d + i)))) else up2 (up2 (up2 (cd_runL t N d i) 5100 (6 * d + i) (((cd_runL t N d i) 5100 (6 * d + i)) + 0)) 400 i (((cd_runL t N d i) 400 i) + 0)) 0 0 (((cd_runL t N d i) 0 0) - 0)
theorem cd_runL_s (t : gm_S) (N : gc_L) (d : Nat) (i : Nat) : cd_runL t N d (i + 1) = if (t 600 i) = 0 then up2 (up2 (up2 (cd_runL t N d i) 5100 (6 * d + i) (((cd_runL t N d i) 5100 (6 * d + i)) + ((cd_billOf (cd_runL t N d i) N d i) - ((cd_runL t N d i) 5100 (6 * d + i))))) 400 i (((cd_runL t N d i) 400 i) + ((cd_billOf (cd_runL t N d i) N d i) - ((cd_runL t N d i) 5100 (6 * d + i))))) 0 0 (((cd_runL t N d i) 0 0) - ((cd_billOf (cd_runL t N d i) N d i) - ((cd_runL t N d i) 5100 (6 * d + i)))) else up2 (up2 (up2 (cd_runL t N d i) 5100 (6 * d + i) (((cd_runL t N d i) 5100 (6 * d + i)) + 0)) 400 i (((cd_runL t N d i) 400 i) + 0)) 0 0 (((cd_runL t N d i) 0 0) - 0) := rfl
theorem cd_runL_keep (t : gm_S) (N : gc_L) (d : Nat) (i k9 : Nat) (h0 : k9 ≠ 0) (h400 : k9 ≠ 400) (h5100 : k9 ≠ 5100) : cd_runL t N d i k9 = t k9 := by
  induction i with
  | zero => rfl
  | succ i ih => simp only [cd_runL, gc_ite, up2_n h0, up2_n h400, up2_n h5100, ih, ite_self]
def ct_run (τ : gm_S) (N : gc_L) (dy : Int32) : Int32 := if 0 ≤ dy ∧ dy ≤ nI (N 16 0) - 1 then (if ¬ (3 ≤ (τ 3600 (cx dy))) then 0 else 3) else 1
def cu_run (τ : gm_S) (N : gc_L) (dy : Int32) : gm_S := cu_fail (cd_runL (up2 τ 3600 (cx dy) ((τ 3600 (cx dy)) + 1)) N (cx dy) 6) N
def cd_run (τ : gm_S) (N : gc_L) (dy : Int32) : Int32 := cd_fail (cd_runL (up2 τ 3600 (cx dy) ((τ 3600 (cx dy)) + 1)) N (cx dy) 6) N
set_option maxHeartbeats 4000000 in
theorem cm_run (l : Launch) (hl : l.stackTraces = false) (G : ga_X) (L N : gc_L) (τ : gm_S) (dy : Int32) (hR : ∀ d, d < N 16 0 → N 40 d ≠ 0) (hV : gc_V N τ) : gs_C l G yX1_run cX1_run 5 (some FieldType.int) ({ frames := 10, cells := 5475, slots := 23160, locals := 220 } : Room) [.ref (L 0 0), .int dy] L N τ (ct_run τ N dy) (some (.int (cd_run τ N dy))) (cu_run τ N dy) := by
  refine gs_start RX1 hl rfl (by decide) (Nat.le_of_ble_eq_true rfl) (fun Γ h1 h n0 n1 n e X Y hP hn hF hn1 hn01 hxt => ?_)
  subst e
  show ga Γ G h n 0 0 0 [(0, .ref (L 0 0)), (1, .int dy)] []
  refine ga_aload_n X 0 dX1_run_0 rfl rfl ?_
  refine ga_iload_n X 1 dX1_run_1 rfl rfl ?_
  refine ga_callV X Y (cm_closed _ X.tr G L N τ dy _ _ _ hP hn) wX1_160 (ci := 0) rfl hP.r0 ⟨Nat.le_of_ble_eq_true rfl, Nat.le_of_ble_eq_true rfl⟩ ⟨(by first | decide | omega | (dsimp only; omega)), (by first | decide | omega | (dsimp only; omega))⟩ rfl (Nat.le_of_ble_eq_true rfl) dX1_run_2 (fun v9 h9 n9 hq _ => ?_) (fun E9 h9 n9 hq _ => ?_)
  rotate_left
  · obtain ⟨hc, rfl, hq2, hq3⟩ := hq
    exact ga_out X Y (fun x hx => (hxt x hx).elim) (by first | decide | omega | (dsimp only; omega)) (by first | decide | omega | (dsimp only; omega)) ⟨by unfold ct_run; rw [if_neg hc]; decide, by unfold ct_run; rw [if_neg hc]; rfl, Nat.le_trans hn1 hq3, by rw [hq2]; exact hF⟩
  obtain ⟨hp_1, rfl, hq2, hq3⟩ := hq
  rw [hq2, hq3]
  refine ga_widen (k2 := 1) (n2 := 6) (by first | decide | omega | (dsimp only; omega)) (by first | decide | omega | (dsimp only; omega)) ?_
  show ga Γ G _ _ _ _ 5 [(0, .ref (L 0 0)), (1, .int dy)] (.ref (L 36 (cx dy)) :: [])
  have hb_1 : N 16 0 < 2147483648 := Nat.lt_of_le_of_lt hP.n16 (by decide)
  obtain ⟨ec_1, rl_1⟩ := cx_cnt hp_1 hb_1
  refine ga_astore_n X [(2, .ref (L 36 (cx dy))), (0, .ref (L 0 0)), (1, .int dy)] dX1_run_5 rfl (by decide) rfl ?_
  refine ga_aload_n X 0 dX1_run_6 rfl rfl ?_
  refine ga_getN X in_X2 (ci := 1) rfl 10 (by decide) q162 rfl (hP.r36 (Nat.le_of_lt rl_1)) rfl dX1_run_7 ?_
  refine ga_iconst X (v := 3) dX1_run_10 (by decide) ?_
  have J19 : ∀ (v19 : Int32), v19 = (bI (¬ (3 ≤ (τ 3600 (cx dy))))) → ga Γ G h n 1 6 19 [(2, .ref (L 36 (cx dy))), (0, .ref (L 0 0)), (1, .int dy)] (.int v19 :: []) := by
    intro v19 ev19
    subst ev19
    refine ga_callS X Y (cm_allow _ X.tr G (¬ (3 ≤ (τ 3600 (cx dy)))) _ _) wX1_54 ⟨Nat.le_of_ble_eq_true rfl, Nat.le_of_ble_eq_true rfl⟩ ⟨(by first | decide | omega | (dsimp only; omega)), (by first | decide | omega | (dsimp only; omega))⟩ rfl (Nat.le_of_ble_eq_true rfl) dX1_run_19 (fun v9 h9 n9 hq _ => ?_) (fun E9 h9 n9 hq _ => ?_)
    rotate_left
    · obtain ⟨hc, rfl, hq2, hq3⟩ := hq
      exact ga_out X Y (fun x hx => (hxt x hx).elim) (by first | decide | omega | (dsimp only; omega)) (by first | decide | omega | (dsimp only; omega)) ⟨by unfold ct_run; rw [if_pos hp_1, if_neg hc]; decide, by unfold ct_run; rw [if_pos hp_1, if_neg hc]; rfl, Nat.le_trans hn1 hq3, by rw [hq2]; exact hF⟩
    obtain ⟨hp_2, rfl, hq2, hq3⟩ := hq
    rw [hq2, hq3]
    refine ga_widen (k2 := 2) (n2 := 12) (by first | decide | omega | (dsimp only; omega)) (by first | decide | omega | (dsimp only; omega)) ?_
    show ga Γ G _ _ _ _ 22 [(2, .ref (L 36 (cx dy))), (0, .ref (L 0 0)), (1, .int dy)] ([])
    refine ga_aload_n X 0 dX1_run_22 rfl rfl ?_
    refine ga_dup X dX1_run_23 rfl ?_
    refine ga_getN X in_X2 (ci := 1) rfl 10 (by decide) q162 rfl (hP.r36 (Nat.le_of_lt rl_1)) rfl dX1_run_24 ?_
    refine ga_iconst X (v := 1) dX1_run_27 (by decide) ?_
    refine ga_iadd X dX1_run_28 ?_
    refine ga_putNE X in_X2 tyX2 tyX2_ok nmX2 (ci := 1) rfl 10 (by decide) q162 rfl rfl (hP.r36 (Nat.le_of_lt rl_1)) (hP.A (hP.l36 (Nat.le_of_lt rl_1))) rfl rfl (Nat.le_of_ble_eq_true rfl) (fs' := [.ref (L 10 (cx dy)), .ref (L 11 (cx dy)), .ref (L 12 (cx dy)), .ref (L 13 (cx dy)), .ref (L 14 (cx dy)), .ref (L 15 (cx dy)), (if N 40 (cx dy) = 0 then .null else .ref (L 40 (cx dy))), .ref (L 45 (cx dy)), .ref (L 48 (cx dy)), .ref (L 51 (cx dy)), .int ((τ 3600 (cx dy)) + 1)]) rfl dX1_run_29 ?_
    have hF : gc_V1 L N n0 n1 h1 h := gc_V1.of hF
    refine gs_w (P := fun h => ga Γ G h n 2 12 32 [(2, .ref (L 36 (cx dy))), (0, .ref (L 0 0)), (1, .int dy)] ([])) (hP.up1 3600 (cx dy) ((τ 3600 (cx dy)) + 1) (k := 36) (i := (cx dy)) rfl rfl (hP.l36 (Nat.le_of_lt rl_1)) (by simp [gc_ok, up2, upd])) (hP.l36 (Nat.le_of_lt rl_1)) hF (fun h hP hF hk => ?_)
    refine ga_iconst X (v := 0) dX1_run_32 (by decide) ?_
    refine ga_istore_n X [(3, .int 0), (2, .ref (L 36 (cx dy))), (0, .ref (L 0 0)), (1, .int dy)] dX1_run_33 rfl (by decide) rfl ?_
    have L34 : ∀ (fu i : Nat) (h : ga_H) (n : Nat) (x3 : Int32), i ≤ 6 → 6 < i + fu → x3 = (nI i) → gc_P G L N (cd_runL (up2 τ 3600 (cx dy) ((τ 3600 (cx dy)) + 1)) N (cx dy) i) n0 h → n0 ≤ n → gc_V1 L N n0 n1 h1 h → n1 ≤ n → ga Γ G h n (2 + i * 912) (12 + i * 3856) 34 [(0, .ref (L 0 0)), (2, .ref (L 36 (cx dy))), (3, .int x3)] ([]) := by
      intro fu
      induction fu with
      | zero => intro i h n x3 hi hd; exact absurd hd (by omega)
      | succ fu ih34 =>
        intro i h n x3 hi34 hd34 e3 hP hn hF hn1 
        rw [e3]
        refine ga_iload_n X 2 dX1_run_34 rfl rfl ?_
        refine ga_bipush X (v := 6) dX1_run_35 (by decide) ?_
        refine ga_icmp_ge X (tgt := 106) dX1_run_37 (by decide) (fun c_37 => ?_) (fun c_37 => ?_)
        · have hx_37 : 6 = i := Nat.le_antisymm ((nI_leI (a := 6) (by omega) (by omega)).mp c_37) hi34
          subst hx_37
          refine ga_widen (k2 := 5474) (n2 := 23148) (by first | decide | omega | (dsimp only; omega)) (by first | decide | omega | (dsimp only; omega)) ?_
          refine ga_aload_n X 0 dX1_run_106 rfl rfl ?_
          refine ga_callV X Y (cm_fail _ X.tr G L N (cd_runL (up2 τ 3600 (cx dy) ((τ 3600 (cx dy)) + 1)) N (cx dy) 6) _ _ _ hP hn) wX1_189 (ci := 0) rfl hP.r0 ⟨Nat.le_of_ble_eq_true rfl, Nat.le_of_ble_eq_true rfl⟩ ⟨(by first | decide | omega | (dsimp only; omega)), (by first | decide | omega | (dsimp only; omega))⟩ rfl (Nat.le_of_ble_eq_true rfl) dX1_run_107 (fun v9 h n hq _ => ?_) (fun _ _ _ q _ => absurd (show ct_fail (cd_runL (up2 τ 3600 (cx dy) ((τ 3600 (cx dy)) + 1)) N (cx dy) 6) N = 0 from rfl) q.1)
          obtain ⟨-, rfl, hq2, hP, hq4, hq5⟩ := hq
          have hF := hF.callW hq4 hq5 hn1
          have hn := Nat.le_trans hn hq2
          have hn1 := Nat.le_trans hn1 hq2
          refine ga_widen (k2 := 5474) (n2 := 23148) (by first | decide | omega | (dsimp only; omega)) (by first | decide | omega | (dsimp only; omega)) ?_
          show ga Γ G _ _ _ _ 110 [(0, .ref (L 0 0)), (2, .ref (L 36 (cx dy))), (3, .int (nI 6))] (.int (cd_fail (cd_runL (up2 τ 3600 (cx dy) ((τ 3600 (cx dy)) + 1)) N (cx dy) 6) N) :: [])
          exact ga_iret X Y dX1_run_110 (by first | decide | omega | (dsimp only; omega)) (by first | decide | omega | (dsimp only; omega)) ⟨by unfold ct_run; rw [if_pos hp_1, if_pos hp_2], congrArg (fun z => some (Value.int z)) (show (cd_fail (cd_runL (up2 τ 3600 (cx dy) ((τ 3600 (cx dy)) + 1)) N (cx dy) 6) N) = cd_run τ N dy from by unfold cd_run; exact (rfl).symm), hn1, (show gc_P G L N (cu_run τ N dy) n0 h from (show (cu_fail (cd_runL (up2 τ 3600 (cx dy) ((τ 3600 (cx dy)) + 1)) N (cx dy) 6) N) = cu_run τ N dy from by unfold cu_run; exact (rfl).symm) ▸ hP), hF.1, hF.2⟩
        · have hx_37 : i < 6 := Nat.lt_of_not_le fun z => c_37 ((nI_leI (a := 6) (by omega) (by omega)).mpr z)
          refine ga_aload_n X 0 dX1_run_40 rfl rfl ?_
          refine ga_get X in_X1 (ci := 0) rfl 5 (by decide) q193 rfl hP.r0 rfl dX1_run_41 ?_
          refine ga_iload_n X 2 dX1_run_44 rfl rfl ?_
          refine ga_zald X i rfl (by omega) (by decide) hP.r6.1 dX1_run_45 ?_
          refine ga_st (st' := .int (τ 600 i) :: []) (by rw [show (cd_runL (up2 τ 3600 (cx dy) ((τ 3600 (cx dy)) + 1)) N (cx dy) i) 600 i = (τ 600 i) from ((show (cd_runL (up2 τ 3600 (cx dy) ((τ 3600 (cx dy)) + 1)) N (cx dy) i) 600 i = (up2 τ 3600 (cx dy) ((τ 3600 (cx dy)) + 1)) 600 i from congrFun (cd_runL_keep (up2 τ 3600 (cx dy) ((τ 3600 (cx dy)) + 1)) N (cx dy) i 600 (by decide) (by decide) (by decide)) i)).trans (rfl)]) ?_
          refine ga_if_eq X (tgt := 53) dX1_run_46 (by decide) (fun c_46 => ?_) (fun c_46 => ?_)
          · refine ga_aload_n X 1 dX1_run_53 rfl rfl ?_
            refine ga_iload_n X 2 dX1_run_54 rfl rfl ?_
            refine ga_callS X Y (cm_billOf _ X.tr G L N (cd_runL (up2 τ 3600 (cx dy) ((τ 3600 (cx dy)) + 1)) N (cx dy) i) (cx dy) i (Nat.le_of_lt rl_1) (by omega) (hR _ rl_1) (hV.keepR (fun k h0 h4 h5 h3 => (cd_runL_keep _ _ _ _ k h0 h4 h5).trans (up2_n h3))) _ _ _ hP hn) wX1_179 ⟨Nat.le_of_ble_eq_true rfl, Nat.le_of_ble_eq_true rfl⟩ ⟨(by first | decide | omega | (dsimp only; omega)), (by first | decide | omega | (dsimp only; omega))⟩ rfl (Nat.le_of_ble_eq_true rfl) dX1_run_55 (fun v9 h n hq _ => ?_) (fun _ _ _ q _ => q.elim)
            obtain ⟨rfl, hq2, hq3⟩ := hq
            have hP := hP.temp (fun a ha => hq3 a (by omega))
            have hF := hF.call hq3 hn1
            have hn := Nat.le_trans hn hq2
            have hn1 := Nat.le_trans hn1 hq2
            refine ga_widen (k2 := 914 + i * 912) (n2 := 3868 + i * 3856) (by first | decide | omega | (dsimp only; omega)) (by first | decide | omega | (dsimp only; omega)) ?_
            show ga Γ G _ _ _ _ 58 [(0, .ref (L 0 0)), (2, .ref (L 36 (cx dy))), (3, .int (nI i))] (.int (cd_billOf (cd_runL (up2 τ 3600 (cx dy) ((τ 3600 (cx dy)) + 1)) N (cx dy) i) N (cx dy) i) :: [])
            refine ga_aload_n X 1 dX1_run_58 rfl rfl ?_
            refine ga_getN X in_X2 (ci := 1) rfl 9 (by decide) q161 rfl (hP.r36 (Nat.le_of_lt rl_1)) rfl dX1_run_59 ?_
            refine ga_iload_n X 2 dX1_run_62 rfl rfl ?_
            obtain ⟨f_2, hf_2, hv_2⟩ := hP.r51 (Nat.le_of_lt rl_1)
            refine ga_iald X i rfl (by omega) (by decide) hf_2 dX1_run_63 ?_
            refine ga_st (st' := .int ((cd_runL (up2 τ 3600 (cx dy) ((τ 3600 (cx dy)) + 1)) N (cx dy) i) 5100 (6 * (cx dy) + i)) :: .int (cd_billOf (cd_runL (up2 τ 3600 (cx dy) ((τ 3600 (cx dy)) + 1)) N (cx dy) i) N (cx dy) i) :: []) (by rw [hv_2 i (by omega)]) ?_
            refine ga_isub X dX1_run_64 ?_
            refine ga_istore X [(4, .int ((cd_billOf (cd_runL (up2 τ 3600 (cx dy) ((τ 3600 (cx dy)) + 1)) N (cx dy) i) N (cx dy) i) - ((cd_runL (up2 τ 3600 (cx dy) ((τ 3600 (cx dy)) + 1)) N (cx dy) i) 5100 (6 * (cx dy) + i)))), (0, .ref (L 0 0)), (2, .ref (L 36 (cx dy))), (3, .int (nI i))] dX1_run_65 (by decide) rfl ?_
            refine ga_aload_n X 2 dX1_run_67 rfl rfl ?_
            refine ga_getN X in_X2 (ci := 1) rfl 9 (by decide) q161 rfl (hP.r36 (Nat.le_of_lt rl_1)) rfl dX1_run_68 ?_
            refine ga_iload_n X 3 dX1_run_71 rfl rfl ?_
            refine ga_dup2 X dX1_run_72 rfl rfl ?_
            obtain ⟨f_3, hf_3, hv_3⟩ := hP.r51 (Nat.le_of_lt rl_1)
            refine ga_iald X i rfl (by omega) (by decide) hf_3 dX1_run_73 ?_
            refine ga_st (st' := .int ((cd_runL (up2 τ 3600 (cx dy) ((τ 3600 (cx dy)) + 1)) N (cx dy) i) 5100 (6 * (cx dy) + i)) :: .int (nI i) :: .ref (L 51 (cx dy)) :: []) (by rw [hv_3 i (by omega)]) ?_
            refine ga_iload X 0 dX1_run_74 rfl ?_
            refine ga_iadd X dX1_run_76 ?_
            obtain ⟨f_4, hf_4, hv_4⟩ := hP.r51 (Nat.le_of_lt rl_1)
            refine ga_iast X i rfl (by omega) (by decide) hf_4 (hP.A (hP.l51 (Nat.le_of_lt rl_1))) dX1_run_77 ?_
            refine gs_w (P := fun h => ga Γ G h n (914 + i * 912) (3868 + i * 3856) 78 [(4, .int ((cd_billOf (cd_runL (up2 τ 3600 (cx dy) ((τ 3600 (cx dy)) + 1)) N (cx dy) i) N (cx dy) i) - ((cd_runL (up2 τ 3600 (cx dy) ((τ 3600 (cx dy)) + 1)) N (cx dy) i) 5100 (6 * (cx dy) + i)))), (0, .ref (L 0 0)), (2, .ref (L 36 (cx dy))), (3, .int (nI i))] ([])) (hP.up1 5100 (6 * (cx dy) + i) (((cd_runL (up2 τ 3600 (cx dy) ((τ 3600 (cx dy)) + 1)) N (cx dy) i) 5100 (6 * (cx dy) + i)) + ((cd_billOf (cd_runL (up2 τ 3600 (cx dy) ((τ 3600 (cx dy)) + 1)) N (cx dy) i) N (cx dy) i) - ((cd_runL (up2 τ 3600 (cx dy) ((τ 3600 (cx dy)) + 1)) N (cx dy) i) 5100 (6 * (cx dy) + i)))) (k := 51) (i := (cx dy)) rfl (show (6 * (cx dy) + i) / 6 = cx dy by omega) (hP.l51 (Nat.le_of_lt rl_1)) ⟨upd f_4 i (((cd_runL (up2 τ 3600 (cx dy) ((τ 3600 (cx dy)) + 1)) N (cx dy) i) 5100 (6 * (cx dy) + i)) + ((cd_billOf (cd_runL (up2 τ 3600 (cx dy) ((τ 3600 (cx dy)) + 1)) N (cx dy) i) N (cx dy) i) - ((cd_runL (up2 τ 3600 (cx dy) ((τ 3600 (cx dy)) + 1)) N (cx dy) i) 5100 (6 * (cx dy) + i)))), rfl, gc_row hv_4⟩) (hP.l51 (Nat.le_of_lt rl_1)) hF (fun h hP hF hk => ?_)
            refine ga_aload_n X 1 dX1_run_78 rfl rfl ?_
            refine ga_get X in_X1 (ci := 0) rfl 3 (by decide) q191 rfl hP.r0 rfl dX1_run_79 ?_
            refine ga_iload_n X 3 dX1_run_82 rfl rfl ?_
            refine ga_dup2 X dX1_run_83 rfl rfl ?_
            refine ga_iald X i rfl (by omega) (by decide) hP.r4 dX1_run_84 ?_
            refine ga_st (st' := .int ((cd_runL (up2 τ 3600 (cx dy) ((τ 3600 (cx dy)) + 1)) N (cx dy) i) 400 i) :: .int (nI i) :: .ref (L 4 0) :: []) (by rw [show (up2 (cd_runL (up2 τ 3600 (cx dy) ((τ 3600 (cx dy)) + 1)) N (cx dy) i) 5100 (6 * (cx dy) + i) (((cd_runL (up2 τ 3600 (cx dy) ((τ 3600 (cx dy)) + 1)) N (cx dy) i) 5100 (6 * (cx dy) + i)) + ((cd_billOf (cd_runL (up2 τ 3600 (cx dy) ((τ 3600 (cx dy)) + 1)) N (cx dy) i) N (cx dy) i) - ((cd_runL (up2 τ 3600 (cx dy) ((τ 3600 (cx dy)) + 1)) N (cx dy) i) 5100 (6 * (cx dy) + i))))) 400 i = ((cd_runL (up2 τ 3600 (cx dy) ((τ 3600 (cx dy)) + 1)) N (cx dy) i) 400 i) from rfl]) ?_
            refine ga_iload X 0 dX1_run_85 rfl ?_
            refine ga_iadd X dX1_run_87 ?_
            refine ga_iast X i rfl (by omega) (by decide) hP.r4 (hP.A hP.l4) dX1_run_88 ?_
            refine gs_w (P := fun h => ga Γ G h n (914 + i * 912) (3868 + i * 3856) 89 [(4, .int ((cd_billOf (cd_runL (up2 τ 3600 (cx dy) ((τ 3600 (cx dy)) + 1)) N (cx dy) i) N (cx dy) i) - ((cd_runL (up2 τ 3600 (cx dy) ((τ 3600 (cx dy)) + 1)) N (cx dy) i) 5100 (6 * (cx dy) + i)))), (0, .ref (L 0 0)), (2, .ref (L 36 (cx dy))), (3, .int (nI i))] ([])) (hP.up1 400 i (((cd_runL (up2 τ 3600 (cx dy) ((τ 3600 (cx dy)) + 1)) N (cx dy) i) 400 i) + ((cd_billOf (cd_runL (up2 τ 3600 (cx dy) ((τ 3600 (cx dy)) + 1)) N (cx dy) i) N (cx dy) i) - ((cd_runL (up2 τ 3600 (cx dy) ((τ 3600 (cx dy)) + 1)) N (cx dy) i) 5100 (6 * (cx dy) + i)))) (k := 4) (i := 0) rfl rfl hP.l4 ⟨rfl, congrArg (ga_I G 6) up2_s.symm⟩) hP.l4 hF (fun h hP hF hk => ?_)
            refine ga_aload_n X 1 dX1_run_89 rfl rfl ?_
            refine ga_dup X dX1_run_90 rfl ?_
            refine ga_get X in_X1 (ci := 0) rfl 6 (by decide) q194 rfl hP.r0 rfl dX1_run_91 ?_
            refine ga_st (st' := .int ((cd_runL (up2 τ 3600 (cx dy) ((τ 3600 (cx dy)) + 1)) N (cx dy) i) 0 0) :: .ref (L 0 0) :: []) (by rw [show (up2 (up2 (cd_runL (up2 τ 3600 (cx dy) ((τ 3600 (cx dy)) + 1)) N (cx dy) i) 5100 (6 * (cx dy) + i) (((cd_runL (up2 τ 3600 (cx dy) ((τ 3600 (cx dy)) + 1)) N (cx dy) i) 5100 (6 * (cx dy) + i)) + ((cd_billOf (cd_runL (up2 τ 3600 (cx dy) ((τ 3600 (cx dy)) + 1)) N (cx dy) i) N (cx dy) i) - ((cd_runL (up2 τ 3600 (cx dy) ((τ 3600 (cx dy)) + 1)) N (cx dy) i) 5100 (6 * (cx dy) + i))))) 400 i (((cd_runL (up2 τ 3600 (cx dy) ((τ 3600 (cx dy)) + 1)) N (cx dy) i) 400 i) + ((cd_billOf (cd_runL (up2 τ 3600 (cx dy) ((τ 3600 (cx dy)) + 1)) N (cx dy) i) N (cx dy) i) - ((cd_runL (up2 τ 3600 (cx dy) ((τ 3600 (cx dy)) + 1)) N (cx dy) i) 5100 (6 * (cx dy) + i))))) 0 0 = ((cd_runL (up2 τ 3600 (cx dy) ((τ 3600 (cx dy)) + 1)) N (cx dy) i) 0 0) from rfl]) ?_
            refine ga_iload X 0 dX1_run_94 rfl ?_
            refine ga_isub X dX1_run_96 ?_
            refine ga_putE X in_X1 tyX1 tyX1_ok nmX1 (ci := 0) rfl 6 (by decide) q194 rfl rfl hP.r0 (hP.A hP.l0) rfl rfl (Nat.le_of_ble_eq_true rfl) (fs' := [.ref (L 16 0), .ref (L 36 (N 16 0)), .ref (L 3 0), .ref (L 4 0), .ref (L 5 0), .ref (L 6 0), .int (((cd_runL (up2 τ 3600 (cx dy) ((τ 3600 (cx dy)) + 1)) N (cx dy) i) 0 0) - ((cd_billOf (cd_runL (up2 τ 3600 (cx dy) ((τ 3600 (cx dy)) + 1)) N (cx dy) i) N (cx dy) i) - ((cd_runL (up2 τ 3600 (cx dy) ((τ 3600 (cx dy)) + 1)) N (cx dy) i) 5100 (6 * (cx dy) + i))))]) rfl dX1_run_97 ?_
            refine gs_w (P := fun h => ga Γ G h n (914 + i * 912) (3868 + i * 3856) 100 [(4, .int ((cd_billOf (cd_runL (up2 τ 3600 (cx dy) ((τ 3600 (cx dy)) + 1)) N (cx dy) i) N (cx dy) i) - ((cd_runL (up2 τ 3600 (cx dy) ((τ 3600 (cx dy)) + 1)) N (cx dy) i) 5100 (6 * (cx dy) + i)))), (0, .ref (L 0 0)), (2, .ref (L 36 (cx dy))), (3, .int (nI i))] ([])) (hP.up1 0 0 (((cd_runL (up2 τ 3600 (cx dy) ((τ 3600 (cx dy)) + 1)) N (cx dy) i) 0 0) - ((cd_billOf (cd_runL (up2 τ 3600 (cx dy) ((τ 3600 (cx dy)) + 1)) N (cx dy) i) N (cx dy) i) - ((cd_runL (up2 τ 3600 (cx dy) ((τ 3600 (cx dy)) + 1)) N (cx dy) i) 5100 (6 * (cx dy) + i)))) (k := 0) (i := 0) rfl rfl hP.l0 (by simp [gc_ok, up2, upd])) hP.l0 hF (fun h hP hF hk => ?_)
            refine ga_iinc X 3 [(3, .int (nI (i + 1))), (4, .int ((cd_billOf (cd_runL (up2 τ 3600 (cx dy) ((τ 3600 (cx dy)) + 1)) N (cx dy) i) N (cx dy) i) - ((cd_runL (up2 τ 3600 (cx dy) ((τ 3600 (cx dy)) + 1)) N (cx dy) i) 5100 (6 * (cx dy) + i)))), (0, .ref (L 0 0)), (2, .ref (L 36 (cx dy)))] dX1_run_100 rfl (nI_1 i) (by decide) rfl ?_
            refine ga_goto X (tgt := 34) dX1_run_103 (by decide) ?_
            refine ga_sub [2, 3, 0] rfl ?_
            refine ga_widen (k2 := 2 + (i + 1) * 912) (n2 := 12 + (i + 1) * 3856) (by first | decide | omega | (dsimp only; omega)) (by first | decide | omega | (dsimp only; omega)) ?_
            exact ih34 (i + 1) h n _ (by omega) (by omega) rfl (show gc_P G L N (cd_runL (up2 τ 3600 (cx dy) ((τ 3600 (cx dy)) + 1)) N (cx dy) (i + 1)) n0 h by rw [cd_runL_s]; exact (show _ = (up2 (up2 (up2 (cd_runL (up2 τ 3600 (cx dy) ((τ 3600 (cx dy)) + 1)) N (cx dy) i) 5100 (6 * (cx dy) + i) (((cd_runL (up2 τ 3600 (cx dy) ((τ 3600 (cx dy)) + 1)) N (cx dy) i) 5100 (6 * (cx dy) + i)) + ((cd_billOf (cd_runL (up2 τ 3600 (cx dy) ((τ 3600 (cx dy)) + 1)) N (cx dy) i) N (cx dy) i) - ((cd_runL (up2 τ 3600 (cx dy) ((τ 3600 (cx dy)) + 1)) N (cx dy) i) 5100 (6 * (cx dy) + i))))) 400 i (((cd_runL (up2 τ 3600 (cx dy) ((τ 3600 (cx dy)) + 1)) N (cx dy) i) 400 i) + ((cd_billOf (cd_runL (up2 τ 3600 (cx dy) ((τ 3600 (cx dy)) + 1)) N (cx dy) i) N (cx dy) i) - ((cd_runL (up2 τ 3600 (cx dy) ((τ 3600 (cx dy)) + 1)) N (cx dy) i) 5100 (6 * (cx dy) + i))))) 0 0 (((cd_runL (up2 τ 3600 (cx dy) ((τ 3600 (cx dy)) + 1)) N (cx dy) i) 0 0) - ((cd_billOf (cd_runL (up2 τ 3600 (cx dy) ((τ 3600 (cx dy)) + 1)) N (cx dy) i) N (cx dy) i) - ((cd_runL (up2 τ 3600 (cx dy) ((τ 3600 (cx dy)) + 1)) N (cx dy) i) 5100 (6 * (cx dy) + i))))) from (if_pos c_46)).symm ▸ hP) hn hF hn1 
          · refine ga_iconst X (v := 0) dX1_run_49 (by decide) ?_
            refine ga_goto X (tgt := 65) dX1_run_50 (by decide) ?_
            refine ga_istore X [(4, .int 0), (0, .ref (L 0 0)), (2, .ref (L 36 (cx dy))), (3, .int (nI i))] dX1_run_65 (by decide) rfl ?_
            refine ga_aload_n X 2 dX1_run_67 rfl rfl ?_
            refine ga_getN X in_X2 (ci := 1) rfl 9 (by decide) q161 rfl (hP.r36 (Nat.le_of_lt rl_1)) rfl dX1_run_68 ?_
            refine ga_iload_n X 3 dX1_run_71 rfl rfl ?_
            refine ga_dup2 X dX1_run_72 rfl rfl ?_
            obtain ⟨f_5, hf_5, hv_5⟩ := hP.r51 (Nat.le_of_lt rl_1)
            refine ga_iald X i rfl (by omega) (by decide) hf_5 dX1_run_73 ?_
            refine ga_st (st' := .int ((cd_runL (up2 τ 3600 (cx dy) ((τ 3600 (cx dy)) + 1)) N (cx dy) i) 5100 (6 * (cx dy) + i)) :: .int (nI i) :: .ref (L 51 (cx dy)) :: []) (by rw [hv_5 i (by omega)]) ?_
            refine ga_iload X 0 dX1_run_74 rfl ?_
            refine ga_iadd X dX1_run_76 ?_
            obtain ⟨f_6, hf_6, hv_6⟩ := hP.r51 (Nat.le_of_lt rl_1)
            refine ga_iast X i rfl (by omega) (by decide) hf_6 (hP.A (hP.l51 (Nat.le_of_lt rl_1))) dX1_run_77 ?_
            refine gs_w (P := fun h => ga Γ G h n (2 + i * 912) (12 + i * 3856) 78 [(4, .int 0), (0, .ref (L 0 0)), (2, .ref (L 36 (cx dy))), (3, .int (nI i))] ([])) (hP.up1 5100 (6 * (cx dy) + i) (((cd_runL (up2 τ 3600 (cx dy) ((τ 3600 (cx dy)) + 1)) N (cx dy) i) 5100 (6 * (cx dy) + i)) + 0) (k := 51) (i := (cx dy)) rfl (show (6 * (cx dy) + i) / 6 = cx dy by omega) (hP.l51 (Nat.le_of_lt rl_1)) ⟨upd f_6 i (((cd_runL (up2 τ 3600 (cx dy) ((τ 3600 (cx dy)) + 1)) N (cx dy) i) 5100 (6 * (cx dy) + i)) + 0), rfl, gc_row hv_6⟩) (hP.l51 (Nat.le_of_lt rl_1)) hF (fun h hP hF hk => ?_)
            refine ga_aload_n X 1 dX1_run_78 rfl rfl ?_
            refine ga_get X in_X1 (ci := 0) rfl 3 (by decide) q191 rfl hP.r0 rfl dX1_run_79 ?_
            refine ga_iload_n X 3 dX1_run_82 rfl rfl ?_
            refine ga_dup2 X dX1_run_83 rfl rfl ?_
            refine ga_iald X i rfl (by omega) (by decide) hP.r4 dX1_run_84 ?_
            refine ga_st (st' := .int ((cd_runL (up2 τ 3600 (cx dy) ((τ 3600 (cx dy)) + 1)) N (cx dy) i) 400 i) :: .int (nI i) :: .ref (L 4 0) :: []) (by rw [show (up2 (cd_runL (up2 τ 3600 (cx dy) ((τ 3600 (cx dy)) + 1)) N (cx dy) i) 5100 (6 * (cx dy) + i) (((cd_runL (up2 τ 3600 (cx dy) ((τ 3600 (cx dy)) + 1)) N (cx dy) i) 5100 (6 * (cx dy) + i)) + 0)) 400 i = ((cd_runL (up2 τ 3600 (cx dy) ((τ 3600 (cx dy)) + 1)) N (cx dy) i) 400 i) from rfl]) ?_
            refine ga_iload X 0 dX1_run_85 rfl ?_
            refine ga_iadd X dX1_run_87 ?_
            refine ga_iast X i rfl (by omega) (by decide) hP.r4 (hP.A hP.l4) dX1_run_88 ?_
            refine gs_w (P := fun h => ga Γ G h n (2 + i * 912) (12 + i * 3856) 89 [(4, .int 0), (0, .ref (L 0 0)), (2, .ref (L 36 (cx dy))), (3, .int (nI i))] ([])) (hP.up1 400 i (((cd_runL (up2 τ 3600 (cx dy) ((τ 3600 (cx dy)) + 1)) N (cx dy) i) 400 i) + 0) (k := 4) (i := 0) rfl rfl hP.l4 ⟨rfl, congrArg (ga_I G 6) up2_s.symm⟩) hP.l4 hF (fun h hP hF hk => ?_)
            refine ga_aload_n X 1 dX1_run_89 rfl rfl ?_
            refine ga_dup X dX1_run_90 rfl ?_
            refine ga_get X in_X1 (ci := 0) rfl 6 (by decide) q194 rfl hP.r0 rfl dX1_run_91 ?_
            refine ga_st (st' := .int ((cd_runL (up2 τ 3600 (cx dy) ((τ 3600 (cx dy)) + 1)) N (cx dy) i) 0 0) :: .ref (L 0 0) :: []) (by rw [show (up2 (up2 (cd_runL (up2 τ 3600 (cx dy) ((τ 3600 (cx dy)) + 1)) N (cx dy) i) 5100 (6 * (cx dy) + i) (((cd_runL (up2 τ 3600 (cx dy) ((τ 3600 (cx dy)) + 1)) N (cx dy) i) 5100 (6 * (cx dy) + i)) + 0)) 400 i (((cd_runL (up2 τ 3600 (cx dy) ((τ 3600 (cx dy)) + 1)) N (cx dy) i) 400 i) + 0)) 0 0 = ((cd_runL (up2 τ 3600 (cx dy) ((τ 3600 (cx dy)) + 1)) N (cx dy) i) 0 0) from rfl]) ?_
            refine ga_iload X 0 dX1_run_94 rfl ?_
            refine ga_isub X dX1_run_96 ?_
            refine ga_putE X in_X1 tyX1 tyX1_ok nmX1 (ci := 0) rfl 6 (by decide) q194 rfl rfl hP.r0 (hP.A hP.l0) rfl rfl (Nat.le_of_ble_eq_true rfl) (fs' := [.ref (L 16 0), .ref (L 36 (N 16 0)), .ref (L 3 0), .ref (L 4 0), .ref (L 5 0), .ref (L 6 0), .int (((cd_runL (up2 τ 3600 (cx dy) ((τ 3600 (cx dy)) + 1)) N (cx dy) i) 0 0) - 0)]) rfl dX1_run_97 ?_
            refine gs_w (P := fun h => ga Γ G h n (2 + i * 912) (12 + i * 3856) 100 [(4, .int 0), (0, .ref (L 0 0)), (2, .ref (L 36 (cx dy))), (3, .int (nI i))] ([])) (hP.up1 0 0 (((cd_runL (up2 τ 3600 (cx dy) ((τ 3600 (cx dy)) + 1)) N (cx dy) i) 0 0) - 0) (k := 0) (i := 0) rfl rfl hP.l0 (by simp [gc_ok, up2, upd])) hP.l0 hF (fun h hP hF hk => ?_)
            refine ga_iinc X 3 [(3, .int (nI (i + 1))), (4, .int 0), (0, .ref (L 0 0)), (2, .ref (L 36 (cx dy)))] dX1_run_100 rfl (nI_1 i) (by decide) rfl ?_
            refine ga_goto X (tgt := 34) dX1_run_103 (by decide) ?_
            refine ga_sub [2, 3, 0] rfl ?_
            refine ga_widen (k2 := 2 + (i + 1) * 912) (n2 := 12 + (i + 1) * 3856) (by first | decide | omega | (dsimp only; omega)) (by first | decide | omega | (dsimp only; omega)) ?_
            exact ih34 (i + 1) h n _ (by omega) (by omega) rfl (show gc_P G L N (cd_runL (up2 τ 3600 (cx dy) ((τ 3600 (cx dy)) + 1)) N (cx dy) (i + 1)) n0 h by rw [cd_runL_s]; exact (show _ = (up2 (up2 (up2 (cd_runL (up2 τ 3600 (cx dy) ((τ 3600 (cx dy)) + 1)) N (cx dy) i) 5100 (6 * (cx dy) + i) (((cd_runL (up2 τ 3600 (cx dy) ((τ 3600 (cx dy)) + 1)) N (cx dy) i) 5100 (6 * (cx dy) + i)) + 0)) 400 i (((cd_runL (up2 τ 3600 (cx dy) ((τ 3600 (cx dy)) + 1)) N (cx dy) i) 400 i) + 0)) 0 0 (((cd_runL (up2 τ 3600 (cx dy) ((τ 3600 (cx dy)) + 1)) N (cx dy) i) 0 0) - 0)) from (if_neg c_46)).symm ▸ hP) hn hF hn1 
    refine ga_sub [2, 1, 0] rfl ?_
    refine ga_widen (k2 := 2 + 0 * 912) (n2 := 12 + 0 * 3856) (by first | decide | omega | (dsimp only; omega)) (by first | decide | omega | (dsimp only; omega)) ?_
    exact L34 (6 + 1) 0 h n _ (by omega) (by omega) rfl hP hn hF hn1 
  refine ga_icmp_ge X (tgt := 18) dX1_run_11 (by decide) (fun c_11 => ?_) (fun c_11 => ?_)
  · refine ga_iconst X (v := 0) dX1_run_18 (by decide) ?_
    exact J19 _ ((bI_f (fun hh => hh c_11)).symm)
  · refine ga_iconst X (v := 1) dX1_run_14 (by decide) ?_
    refine ga_goto X (tgt := 19) dX1_run_15 (by decide) ?_
    exact J19 _ ((bI_t c_11).symm)
