set_option maxRecDepth 100000
def cd_exB (N : gc_L) (js jb y f g : Nat) (t : gm_S) : gm_S := up2 (up2 (cu_move t N y f g) 3305 (1024 * (N 16 0) + js) (cu_move t N y f g 3305 (1024 * (N 16 0) + js) - 1)) 3305 (1024 * (N 16 0) + jb) (up2 (cu_move t N y f g) 3305 (1024 * (N 16 0) + js) (cu_move t N y f g 3305 (1024 * (N 16 0) + js) - 1) 3305 (1024 * (N 16 0) + jb) - 1)
def cd_exL (N : gc_L) (js jb y f g : Nat) : Nat → Int32 → gm_S → Int32 × gm_S
  | 0, u, t => (u, t)
  | fu + 1, u, t => if t 3305 (1024 * (N 16 0) + js) ≤ 0 ∨ t 3305 (1024 * (N 16 0) + jb) ≤ 0 ∨ ¬ cp_move t N y f g then (u, t) else cd_exL N js jb y f g fu (u + 1) (cd_exB N js jb y f g t)
theorem cd_exL_s (N : gc_L) (js jb y f g : Nat) (fu : Nat) (u : Int32) (t : gm_S) : cd_exL N js jb y f g (fu + 1) u t = if t 3305 (1024 * (N 16 0) + js) ≤ 0 ∨ t 3305 (1024 * (N 16 0) + jb) ≤ 0 ∨ ¬ cp_move t N y f g then (u, t) else cd_exL N js jb y f g fu (u + 1) (cd_exB N js jb y f g t) := rfl
theorem cu_move_n {τ : gm_S} {N : gc_L} {y f g k : Nat} (h : k ≠ 4200) : cu_move τ N y f g k = τ k := by unfold cu_move; rw [up2_n h, up2_n h]
theorem cd_exB_n (N : gc_L) (js jb y f g : Nat) (t : gm_S) {k : Nat} (h : k ≠ 4200) (h2 : k ≠ 3305) : cd_exB N js jb y f g t k = t k := by unfold cd_exB; rw [up2_n h2, up2_n h2, cu_move_n h]
theorem cd_exB_l (N : gc_L) (js jb y f g : Nat) (t : gm_S) (hne : js ≠ jb) : cd_exB N js jb y f g t 3305 (1024 * (N 16 0) + js) = t 3305 (1024 * (N 16 0) + js) - 1 := by
  unfold cd_exB
  rw [up2_at, if_neg (by omega), up2_ss, cu_move_n (by decide)]
theorem ni_pos {k : Nat} {x : Int32} (e : x = nI k) (h : ¬ x ≤ 0) : 1 ≤ k := by
  cases k with
  | zero => exact absurd (by rw [e]; decide) h
  | succ k => omega
abbrev cx_y (τ : gm_S) (N : gc_L) (js : Nat) : Nat := cx (τ 3302 (1024 * (N 16 0) + js))
abbrev cx_z (τ : gm_S) (N : gc_L) (js : Nat) : Nat := cx (τ 3301 (1024 * (N 16 0) + js))
def cd_exR (τ : gm_S) (N : gc_L) (js jb : Nat) : Int32 × gm_S := cd_exL N js jb (cx_y τ N js) (cx_z τ N js) (cx_z τ N jb) 11 0 τ
set_option maxHeartbeats 4000000 in
theorem cm_exchange (l : Launch) (hl : l.stackTraces = false) (G : ga_X) (L N : gc_L) (τ : gm_S) (js jb : Nat) (hjs : js < N 66 (N 16 0)) (hjb : jb < N 66 (N 16 0)) (hne : js ≠ jb) (hr : N 40 (N 16 0) ≠ 0) (hV : gc_V N τ) : gsW_C l G yX1_exchange cX1_exchange 5 (some FieldType.int) [(2, 58, 61, 364)] ({ frames := 6, cells := 11, slots := 66, locals := 104 } : Room) [.ref (L 0 0), .ref (L 33 (1024 * (N 16 0) + js)), .ref (L 33 (1024 * (N 16 0) + jb))] L N τ (some (.int (cd_exR τ N js jb).1)) (cd_exR τ N js jb).2 := by
  refine gsW_start RX1 hl rfl (by decide) (Nat.le_of_ble_eq_true rfl) (fun Γ h1 h n0 n1 n e X Y hP hn hF hn1 hn01 hxt => ?_)
  subst e
  show ga Γ G h n 0 0 0 [(0, .ref (L 0 0)), (1, .ref (L 33 (1024 * (N 16 0) + js))), (2, .ref (L 33 (1024 * (N 16 0) + jb)))] []
  refine ga_iconst X (v := 0) dX1_exchange_0 (by decide) ?_
  refine ga_istore_n X [(3, .int 0), (0, .ref (L 0 0)), (1, .ref (L 33 (1024 * (N 16 0) + js))), (2, .ref (L 33 (1024 * (N 16 0) + jb)))] dX1_exchange_1 rfl (by decide) rfl ?_
  have hF : gc_V1 L N n0 n1 h1 h := gc_V1.of hF
  have L2 : ∀ (fu : Nat) (u : Int32) (t : gm_S) (h : ga_H) (n : Nat), fu ≤ 11 → (∃ k, t 3305 (1024 * (N 16 0) + js) = nI k ∧ k < fu) → t 3301 = τ 3301 → t 3302 = τ 3302 → cd_exR τ N js jb = cd_exL N js jb (cx_y τ N js) (cx_z τ N js) (cx_z τ N jb) fu u t → gc_P G L N t n0 h → n0 ≤ n → gc_V1 L N n0 n1 h1 h → n1 ≤ n → ga Γ G h n (0 + (11 - fu) * 1) (0 + (11 - fu) * 6) 2 [(0, .ref (L 0 0)), (1, .ref (L 33 (1024 * (N 16 0) + js))), (2, .ref (L 33 (1024 * (N 16 0) + jb))), (3, .int u)] [] := by
    intro fu
    induction fu with
    | zero => intro u t h n _ hk; obtain ⟨k, _, hk⟩ := hk; exact absurd hk (Nat.not_lt_zero _)
    | succ fu ih =>
      intro u t h n hfu hinv h3301 h3302 hR hP hn hF hn1
      replace hR := hR.trans (cd_exL_s _ _ _ _ _ _ _ _ _)
      refine ga_aload_n X 1 dX1_exchange_2 rfl rfl ?_
      refine ga_getN X in_X10 (ci := 8) rfl 5 (by decide) q1155 rfl (hP.r33 (Nat.le_refl _) hjs) rfl dX1_exchange_3 ?_
      refine ga_if_le X (tgt := 58) dX1_exchange_6 (by decide) (fun c_6 => ?_) (fun c_6 => ?_)
      · have hX := hR.trans (if_pos (Or.inl c_6))
        refine ga_goto X (tgt := 65) dX1_exchange_58 (by decide) ?_
        refine ga_iload_n X 3 dX1_exchange_65 rfl rfl ?_
        exact ga_iret X Y dX1_exchange_66 (by first | decide | omega | (dsimp only; omega)) (by first | decide | omega | (dsimp only; omega)) ⟨by rw [hX], hn1, (show gc_P G L N (cd_exR τ N js jb).2 n0 h by rw [hX]; exact hP), hF⟩
      · refine ga_aload_n X 2 dX1_exchange_9 rfl rfl ?_
        refine ga_getN X in_X10 (ci := 8) rfl 5 (by decide) q1155 rfl (hP.r33 (Nat.le_refl _) hjb) rfl dX1_exchange_10 ?_
        refine ga_if_le X (tgt := 58) dX1_exchange_13 (by decide) (fun c_13 => ?_) (fun c_13 => ?_)
        · have hX := hR.trans (if_pos (Or.inr (Or.inl c_13)))
          refine ga_goto X (tgt := 65) dX1_exchange_58 (by decide) ?_
          refine ga_iload_n X 3 dX1_exchange_65 rfl rfl ?_
          exact ga_iret X Y dX1_exchange_66 (by first | decide | omega | (dsimp only; omega)) (by first | decide | omega | (dsimp only; omega)) ⟨by rw [hX], hn1, (show gc_P G L N (cd_exR τ N js jb).2 n0 h by rw [hX]; exact hP), hF⟩
        · refine ga_aload_n X 0 dX1_exchange_16 rfl rfl ?_
          refine ga_aload_n X 1 dX1_exchange_17 rfl rfl ?_
          refine ga_getN X in_X10 (ci := 8) rfl 2 (by decide) q1149 rfl (hP.r33 (Nat.le_refl _) hjs) rfl dX1_exchange_18 ?_
          refine ga_st (st' := .int (τ 3302 (1024 * (N 16 0) + js)) :: .ref (L 0 0) :: []) (by rw [show t 3302 (1024 * (N 16 0) + js) = (τ 3302 (1024 * (N 16 0) + js)) from (show t 3302 (1024 * (N 16 0) + js) = τ 3302 (1024 * (N 16 0) + js) from (congrFun h3302 (1024 * (N 16 0) + js)))]) ?_
          have rg_1 := hV.r3302 (Nat.le_refl _) hjs
          have rl_1 := cx_lt rg_1 (m := 4) (by decide) (by decide)
          refine ga_aload_n X 1 dX1_exchange_21 rfl rfl ?_
          refine ga_getN X in_X10 (ci := 8) rfl 1 (by decide) q1146 rfl (hP.r33 (Nat.le_refl _) hjs) rfl dX1_exchange_22 ?_
          refine ga_st (st' := .int (τ 3301 (1024 * (N 16 0) + js)) :: .int (τ 3302 (1024 * (N 16 0) + js)) :: .ref (L 0 0) :: []) (by rw [show t 3301 (1024 * (N 16 0) + js) = (τ 3301 (1024 * (N 16 0) + js)) from (show t 3301 (1024 * (N 16 0) + js) = τ 3301 (1024 * (N 16 0) + js) from (congrFun h3301 (1024 * (N 16 0) + js)))]) ?_
          have rg_2 := hV.r3301 (Nat.le_refl _) hjs
          have rl_2 := cx_lt rg_2 (m := 3) (by decide) (by decide)
          refine ga_aload_n X 2 dX1_exchange_25 rfl rfl ?_
          refine ga_getN X in_X10 (ci := 8) rfl 1 (by decide) q1146 rfl (hP.r33 (Nat.le_refl _) hjb) rfl dX1_exchange_26 ?_
          refine ga_st (st' := .int (τ 3301 (1024 * (N 16 0) + jb)) :: .int (τ 3301 (1024 * (N 16 0) + js)) :: .int (τ 3302 (1024 * (N 16 0) + js)) :: .ref (L 0 0) :: []) (by rw [show t 3301 (1024 * (N 16 0) + jb) = (τ 3301 (1024 * (N 16 0) + jb)) from (show t 3301 (1024 * (N 16 0) + jb) = τ 3301 (1024 * (N 16 0) + jb) from (congrFun h3301 (1024 * (N 16 0) + jb)))]) ?_
          have rg_3 := hV.r3301 (Nat.le_refl _) hjb
          have rl_3 := cx_lt rg_3 (m := 3) (by decide) (by decide)
          refine ga_st (st' := .int (nI (cx (τ 3301 (1024 * (N 16 0) + jb)))) :: .int (nI (cx (τ 3301 (1024 * (N 16 0) + js)))) :: .int (nI (cx (τ 3302 (1024 * (N 16 0) + js)))) :: .ref (L 0 0) :: []) (by rw [← (cx_e rg_3), ← (cx_e rg_2), ← (cx_e rg_1)]) ?_
          refine ga_callV X Y (cm_move _ X.tr G L N t (cx (τ 3302 (1024 * (N 16 0) + js))) (cx (τ 3301 (1024 * (N 16 0) + js))) (cx (τ 3301 (1024 * (N 16 0) + jb))) (by omega) (by omega) (by omega) hr _ _ _ hP hn) wX1_368 (ci := 0) rfl hP.r0 ⟨Nat.le_of_ble_eq_true rfl, Nat.le_of_ble_eq_true rfl⟩ ⟨(by first | decide | omega | (dsimp only; omega)), (by first | decide | omega | (dsimp only; omega))⟩ rfl (Nat.le_of_ble_eq_true rfl) dX1_exchange_29 (fun v9 h n hq _ => ?_) (fun E9 h n hq _ => ?_)
          rotate_left
          · obtain ⟨hc, rfl, hq2, hP, hq4⟩ := hq
            have hF := hF.callW hq4.1 hq4.2 hn1
            have hn := Nat.le_trans hn hq2
            have hn1 := Nat.le_trans hn1 hq2
            refine ga_catch X [] ⟨2, 58, 61, 364⟩ [] (hxt.trans rfl) (fun _ h => nomatch h) rfl (by decide) q1181 q1187 (fun q9 => ?_)
            have hX := hR.trans (if_pos (Or.inr (Or.inr hc)))
            refine ga_widen (k2 := 1 + (11 - (fu + 1)) * 1) (n2 := 6 + (11 - (fu + 1)) * 6) (by first | decide | omega | (dsimp only; omega)) (by first | decide | omega | (dsimp only; omega)) ?_
            show ga Γ G _ _ _ _ 61 [(0, .ref (L 0 0)), (1, .ref (L 33 (1024 * (N 16 0) + js))), (2, .ref (L 33 (1024 * (N 16 0) + jb))), (3, .int u)] (.ref q9 :: [])
            refine ga_astore X [(4, .ref q9), (0, .ref (L 0 0)), (1, .ref (L 33 (1024 * (N 16 0) + js))), (2, .ref (L 33 (1024 * (N 16 0) + jb))), (3, .int u)] dX1_exchange_61 (by decide) rfl ?_
            refine ga_iload_n X 4 dX1_exchange_63 rfl rfl ?_
            exact ga_iret X Y dX1_exchange_64 (by first | decide | omega | (dsimp only; omega)) (by first | decide | omega | (dsimp only; omega)) ⟨by rw [hX], hn1, (show gc_P G L N (cd_exR τ N js jb).2 n0 h by rw [hX]; exact hP), hF⟩
          obtain ⟨hp_1, rfl, hq2, hP, hq4⟩ := hq
          have hF := hF.callW hq4.1 hq4.2 hn1
          have hn := Nat.le_trans hn hq2
          have hn1 := Nat.le_trans hn1 hq2
          refine ga_widen (k2 := 1 + (11 - (fu + 1)) * 1) (n2 := 6 + (11 - (fu + 1)) * 6) (by first | decide | omega | (dsimp only; omega)) (by first | decide | omega | (dsimp only; omega)) ?_
          show ga Γ G _ _ _ _ 32 [(0, .ref (L 0 0)), (1, .ref (L 33 (1024 * (N 16 0) + js))), (2, .ref (L 33 (1024 * (N 16 0) + jb))), (3, .int u)] ([])
          refine ga_aload_n X 1 dX1_exchange_32 rfl rfl ?_
          refine ga_dup X dX1_exchange_33 rfl ?_
          refine ga_getN X in_X10 (ci := 8) rfl 5 (by decide) q1155 rfl (hP.r33 (Nat.le_refl _) hjs) rfl dX1_exchange_34 ?_
          refine ga_st (st' := .int (t 3305 (1024 * (N 16 0) + js)) :: .ref (L 33 (1024 * (N 16 0) + js)) :: []) (by rw [show (cu_move t N (cx (τ 3302 (1024 * (N 16 0) + js))) (cx (τ 3301 (1024 * (N 16 0) + js))) (cx (τ 3301 (1024 * (N 16 0) + jb)))) 3305 (1024 * (N 16 0) + js) = (t 3305 (1024 * (N 16 0) + js)) from (show (cu_move t N (cx (τ 3302 (1024 * (N 16 0) + js))) (cx (τ 3301 (1024 * (N 16 0) + js))) (cx (τ 3301 (1024 * (N 16 0) + jb)))) 3305 (1024 * (N 16 0) + js) = t 3305 (1024 * (N 16 0) + js) from (congrFun (cu_move_n (by decide)) (1024 * (N 16 0) + js)))]) ?_
          refine ga_iconst X (v := 1) dX1_exchange_37 (by decide) ?_
          refine ga_isub X dX1_exchange_38 ?_
          refine ga_putNE X in_X10 tyX10 tyX10_ok nmX10 (ci := 8) rfl 5 (by decide) q1155 rfl rfl (hP.r33 (Nat.le_refl _) hjs) (hP.A (hP.l33 (Nat.le_refl _) hjs)) rfl rfl (Nat.le_of_ble_eq_true rfl) (fs' := [.int ((cu_move t N (cx (τ 3302 (1024 * (N 16 0) + js))) (cx (τ 3301 (1024 * (N 16 0) + js))) (cx (τ 3301 (1024 * (N 16 0) + jb)))) 3300 (1024 * (N 16 0) + js)), .int ((cu_move t N (cx (τ 3302 (1024 * (N 16 0) + js))) (cx (τ 3301 (1024 * (N 16 0) + js))) (cx (τ 3301 (1024 * (N 16 0) + jb)))) 3301 (1024 * (N 16 0) + js)), .int ((cu_move t N (cx (τ 3302 (1024 * (N 16 0) + js))) (cx (τ 3301 (1024 * (N 16 0) + js))) (cx (τ 3301 (1024 * (N 16 0) + jb)))) 3302 (1024 * (N 16 0) + js)), .int ((cu_move t N (cx (τ 3302 (1024 * (N 16 0) + js))) (cx (τ 3301 (1024 * (N 16 0) + js))) (cx (τ 3301 (1024 * (N 16 0) + jb)))) 3303 (1024 * (N 16 0) + js)), .int ((cu_move t N (cx (τ 3302 (1024 * (N 16 0) + js))) (cx (τ 3301 (1024 * (N 16 0) + js))) (cx (τ 3301 (1024 * (N 16 0) + jb)))) 3304 (1024 * (N 16 0) + js)), .int ((t 3305 (1024 * (N 16 0) + js)) - 1)]) rfl dX1_exchange_39 ?_
          refine gs_w (P := fun h => ga Γ G h n (1 + (11 - (fu + 1)) * 1) (6 + (11 - (fu + 1)) * 6) 42 [(0, .ref (L 0 0)), (1, .ref (L 33 (1024 * (N 16 0) + js))), (2, .ref (L 33 (1024 * (N 16 0) + jb))), (3, .int u)] ([])) (hP.up1 3305 (1024 * (N 16 0) + js) ((t 3305 (1024 * (N 16 0) + js)) - 1) (k := 33) (i := (1024 * (N 16 0) + js)) rfl rfl (hP.l33 (Nat.le_refl _) hjs) (by simp [gc_ok, up2, upd])) (hP.l33 (Nat.le_refl _) hjs) hF (fun h hP hF hk => ?_)
          refine ga_aload_n X 2 dX1_exchange_42 rfl rfl ?_
          refine ga_dup X dX1_exchange_43 rfl ?_
          refine ga_getN X in_X10 (ci := 8) rfl 5 (by decide) q1155 rfl (hP.r33 (Nat.le_refl _) hjb) rfl dX1_exchange_44 ?_
          refine ga_iconst X (v := 1) dX1_exchange_47 (by decide) ?_
          refine ga_isub X dX1_exchange_48 ?_
          refine ga_putNE X in_X10 tyX10 tyX10_ok nmX10 (ci := 8) rfl 5 (by decide) q1155 rfl rfl (hP.r33 (Nat.le_refl _) hjb) (hP.A (hP.l33 (Nat.le_refl _) hjb)) rfl rfl (Nat.le_of_ble_eq_true rfl) (fs' := [.int ((up2 (cu_move t N (cx (τ 3302 (1024 * (N 16 0) + js))) (cx (τ 3301 (1024 * (N 16 0) + js))) (cx (τ 3301 (1024 * (N 16 0) + jb)))) 3305 (1024 * (N 16 0) + js) ((t 3305 (1024 * (N 16 0) + js)) - 1)) 3300 (1024 * (N 16 0) + jb)), .int ((up2 (cu_move t N (cx (τ 3302 (1024 * (N 16 0) + js))) (cx (τ 3301 (1024 * (N 16 0) + js))) (cx (τ 3301 (1024 * (N 16 0) + jb)))) 3305 (1024 * (N 16 0) + js) ((t 3305 (1024 * (N 16 0) + js)) - 1)) 3301 (1024 * (N 16 0) + jb)), .int ((up2 (cu_move t N (cx (τ 3302 (1024 * (N 16 0) + js))) (cx (τ 3301 (1024 * (N 16 0) + js))) (cx (τ 3301 (1024 * (N 16 0) + jb)))) 3305 (1024 * (N 16 0) + js) ((t 3305 (1024 * (N 16 0) + js)) - 1)) 3302 (1024 * (N 16 0) + jb)), .int ((up2 (cu_move t N (cx (τ 3302 (1024 * (N 16 0) + js))) (cx (τ 3301 (1024 * (N 16 0) + js))) (cx (τ 3301 (1024 * (N 16 0) + jb)))) 3305 (1024 * (N 16 0) + js) ((t 3305 (1024 * (N 16 0) + js)) - 1)) 3303 (1024 * (N 16 0) + jb)), .int ((up2 (cu_move t N (cx (τ 3302 (1024 * (N 16 0) + js))) (cx (τ 3301 (1024 * (N 16 0) + js))) (cx (τ 3301 (1024 * (N 16 0) + jb)))) 3305 (1024 * (N 16 0) + js) ((t 3305 (1024 * (N 16 0) + js)) - 1)) 3304 (1024 * (N 16 0) + jb)), .int (((up2 (cu_move t N (cx (τ 3302 (1024 * (N 16 0) + js))) (cx (τ 3301 (1024 * (N 16 0) + js))) (cx (τ 3301 (1024 * (N 16 0) + jb)))) 3305 (1024 * (N 16 0) + js) ((t 3305 (1024 * (N 16 0) + js)) - 1)) 3305 (1024 * (N 16 0) + jb)) - 1)]) rfl dX1_exchange_49 ?_
          refine gs_w (P := fun h => ga Γ G h n (1 + (11 - (fu + 1)) * 1) (6 + (11 - (fu + 1)) * 6) 52 [(0, .ref (L 0 0)), (1, .ref (L 33 (1024 * (N 16 0) + js))), (2, .ref (L 33 (1024 * (N 16 0) + jb))), (3, .int u)] ([])) (hP.up1 3305 (1024 * (N 16 0) + jb) (((up2 (cu_move t N (cx (τ 3302 (1024 * (N 16 0) + js))) (cx (τ 3301 (1024 * (N 16 0) + js))) (cx (τ 3301 (1024 * (N 16 0) + jb)))) 3305 (1024 * (N 16 0) + js) ((t 3305 (1024 * (N 16 0) + js)) - 1)) 3305 (1024 * (N 16 0) + jb)) - 1) (k := 33) (i := (1024 * (N 16 0) + jb)) rfl rfl (hP.l33 (Nat.le_refl _) hjb) (by simp [gc_ok, up2, upd])) (hP.l33 (Nat.le_refl _) hjb) hF (fun h hP hF hk => ?_)
          refine ga_iinc X 3 [(3, .int (u + 1)), (0, .ref (L 0 0)), (1, .ref (L 33 (1024 * (N 16 0) + js))), (2, .ref (L 33 (1024 * (N 16 0) + jb)))] dX1_exchange_52 rfl rfl (by decide) rfl ?_
          refine ga_goto X (tgt := 2) dX1_exchange_55 (by decide) ?_
          refine ga_sub [1, 2, 3, 0] rfl ?_
          refine ga_widen (k2 := 0 + (11 - fu) * 1) (n2 := 0 + (11 - fu) * 6) (by first | decide | omega | (dsimp only; omega)) (by first | decide | omega | (dsimp only; omega)) ?_
          obtain ⟨k, hk1, hk2⟩ := hinv
          have hk3 := ni_pos hk1 c_6
          exact ih (u + 1) (cd_exB N js jb (cx_y τ N js) (cx_z τ N js) (cx_z τ N jb) t) h n (by omega) ⟨k - 1, by rw [cd_exB_l _ _ _ _ _ _ _ hne, hk1, show k = (k - 1) + 1 by omega, nI_pred]; rfl, by omega⟩ ((cd_exB_n _ _ _ _ _ _ _ (by decide) (by decide)).trans h3301) ((cd_exB_n _ _ _ _ _ _ _ (by decide) (by decide)).trans h3302) (hR.trans (if_neg (fun z => z.elim c_6 (fun z => z.elim c_13 (fun z => z hp_1))))) hP hn hF hn1
  refine ga_sub [1, 2, 3, 0] rfl ?_
  have h33 := hV.r3305 (Nat.le_refl _) hjs
  exact L2 11 0 τ h n (by decide) ⟨cx _, cx_e h33, cx_lt h33 (by decide) (by decide)⟩ rfl rfl rfl hP hn hF hn1
