set_option maxRecDepth 100000
def cd_gp1 (τ : gm_S) (N : gc_L) (d y : Nat) : Nat → Int32 × Int32
  | 0 => (0, if 0 ≤ (cd_gapin τ N d y) then 300 else 0)
  | i + 1 => (((cd_gp1 τ N d y i).1) + ((cd_used τ N d y) i), if ((cd_used τ N d y) i) ≤ 0 then (cd_gp1 τ N d y i).2 else if 0 ≤ (cd_gapin τ N d y) then if (τ 3503 (1024 * d + i)) < ((cd_gp1 τ N d y i).2) then (τ 3503 (1024 * d + i)) else ((cd_gp1 τ N d y i).2) else if ((cd_gp1 τ N d y i).2) < (τ 3503 (1024 * d + i)) then (τ 3503 (1024 * d + i)) else ((cd_gp1 τ N d y i).2))
theorem cd_gp1_s (τ : gm_S) (N : gc_L) (d y : Nat) (i : Nat) : cd_gp1 τ N d y (i + 1) = (((cd_gp1 τ N d y i).1) + ((cd_used τ N d y) i), if ((cd_used τ N d y) i) ≤ 0 then (cd_gp1 τ N d y i).2 else if 0 ≤ (cd_gapin τ N d y) then if (τ 3503 (1024 * d + i)) < ((cd_gp1 τ N d y i).2) then (τ 3503 (1024 * d + i)) else ((cd_gp1 τ N d y i).2) else if ((cd_gp1 τ N d y i).2) < (τ 3503 (1024 * d + i)) then (τ 3503 (1024 * d + i)) else ((cd_gp1 τ N d y i).2)) := rfl
def cd_gp2 (τ : gm_S) (N : gc_L) (d y : Nat) : Nat → Int32
  | 0 => if ((cd_gp1 τ N d y (N 15 d)).1) = (if (0 : Int32) ≤ (cd_gapin τ N d y) then (cd_gapin τ N d y) else 0 - (cd_gapin τ N d y)) then (cd_gp1 τ N d y (N 15 d)).2 else if 0 ≤ (cd_gapin τ N d y) then 0 else 300
  | i + 1 => if 0 ≤ (cd_gapin τ N d y) then if (τ 4400 (3 * (4 * d + y) + i)) < (cd_gp2 τ N d y i) then (τ 4400 (3 * (4 * d + y) + i)) else (cd_gp2 τ N d y i) else if (cd_gp2 τ N d y i) < (τ 4400 (3 * (4 * d + y) + i)) then (τ 4400 (3 * (4 * d + y) + i)) else (cd_gp2 τ N d y i)
theorem cd_gp2_s (τ : gm_S) (N : gc_L) (d y : Nat) (i : Nat) : cd_gp2 τ N d y (i + 1) = if 0 ≤ (cd_gapin τ N d y) then if (τ 4400 (3 * (4 * d + y) + i)) < (cd_gp2 τ N d y i) then (τ 4400 (3 * (4 * d + y) + i)) else (cd_gp2 τ N d y i) else if (cd_gp2 τ N d y i) < (τ 4400 (3 * (4 * d + y) + i)) then (τ 4400 (3 * (4 * d + y) + i)) else (cd_gp2 τ N d y i) := rfl
def cd_gapPrice (τ : gm_S) (N : gc_L) (d y : Nat) : Int32 := if (cd_gapin τ N d y) = 0 then (-1) else cd_gp2 τ N d y 3
set_option maxHeartbeats 4000000 in
theorem cm_gapPrice (l : Launch) (hl : l.stackTraces = false) (G : ga_X) (L N : gc_L) (τ : gm_S) (d y : Nat) (hd : d ≤ N 16 0) (hy : y < 4) (hr : N 40 d ≠ 0) : gq_C l G yX1_gapPriceOf cX1_gapPriceOf 9 (some FieldType.int) ({ frames := 7, cells := 109, slots := 462, locals := 164 } : Room) [.ref (L 36 d), .int (nI y)] L N τ (.int (cd_gapPrice τ N d y)) := by
  refine gq_start RX1 hl rfl (by decide) (Nat.le_of_ble_eq_true rfl) (fun Γ h1 h n0 n1 n e X Y hP hn hF hn1 hn01 => ?_)
  subst e
  have hb15 := hP.n15 d
  show ga Γ G h n 0 0 0 [(0, .ref (L 36 d)), (1, .int (nI y))] []
  refine ga_aload_n X 0 dX1_gapPriceOf_0 rfl rfl ?_
  refine ga_iload_n X 1 dX1_gapPriceOf_1 rfl rfl ?_
  refine ga_callV X Y (cm_gapin _ X.tr G L N τ d y hd (by omega) _ _ _ hP hn) wX1_246 (ci := 1) rfl (hP.r36 hd) ⟨Nat.le_of_ble_eq_true rfl, Nat.le_of_ble_eq_true rfl⟩ ⟨(by first | decide | omega | (dsimp only; omega)), (by first | decide | omega | (dsimp only; omega))⟩ rfl (Nat.le_of_ble_eq_true rfl) dX1_gapPriceOf_2 (fun v9 h n hq _ => ?_) (fun _ _ _ q _ => q.elim)
  obtain ⟨rfl, hq2, hq3⟩ := hq
  have hP := hP.temp (fun a ha => hq3 a (by omega))
  have hF := fun a (ha : a < n1) => (hq3 a (by omega)).trans (hF a ha)
  have hn := Nat.le_trans hn hq2
  have hn1 := Nat.le_trans hn1 hq2
  refine ga_widen (k2 := 54) (n2 := 216) (by first | decide | omega | (dsimp only; omega)) (by first | decide | omega | (dsimp only; omega)) ?_
  show ga Γ G _ _ _ _ 5 [(0, .ref (L 36 d)), (1, .int (nI y))] (.int (cd_gapin τ N d y) :: [])
  refine ga_istore_n X [(2, .int (cd_gapin τ N d y)), (0, .ref (L 36 d)), (1, .int (nI y))] dX1_gapPriceOf_5 rfl (by decide) rfl ?_
  refine ga_aload_n X 1 dX1_gapPriceOf_6 rfl rfl ?_
  refine ga_iload_n X 2 dX1_gapPriceOf_7 rfl rfl ?_
  refine ga_callS X Y (cm_used _ X.tr G L N τ d y hd (by omega) _ _ _ hP hn) wX1_394 ⟨Nat.le_of_ble_eq_true rfl, Nat.le_of_ble_eq_true rfl⟩ ⟨(by first | decide | omega | (dsimp only; omega)), (by first | decide | omega | (dsimp only; omega))⟩ rfl (Nat.le_of_ble_eq_true rfl) dX1_gapPriceOf_8 (fun v9 h n hq _ => ?_) (fun _ _ _ q _ => q.elim)
  obtain ⟨t8, rfl, hb9, hl_t8, ht_t8, hq2, hq3⟩ := hq
  have hP := hP.temp (fun a ha => hq3 a (by omega))
  have hF := fun a (ha : a < n1) => (hq3 a (by omega)).trans (hF a ha)
  have ha_t8 : n1 ≤ t8 := Nat.le_trans hn1 hb9
  have hb_t8 : n0 ≤ t8 := Nat.le_trans hn hb9
  have hn := Nat.le_trans hn hq2
  have hn1 := Nat.le_trans hn1 hq2
  refine ga_widen (k2 := 109) (n2 := 462) (by first | decide | omega | (dsimp only; omega)) (by first | decide | omega | (dsimp only; omega)) ?_
  show ga Γ G _ _ _ _ 11 [(2, .int (cd_gapin τ N d y)), (0, .ref (L 36 d)), (1, .int (nI y))] (.ref t8 :: [])
  refine ga_astore_n X [(3, .ref t8), (2, .int (cd_gapin τ N d y)), (0, .ref (L 36 d)), (1, .int (nI y))] dX1_gapPriceOf_11 rfl (by decide) rfl ?_
  refine ga_iconst X (v := 0) dX1_gapPriceOf_12 (by decide) ?_
  refine ga_istore X [(4, .int 0), (3, .ref t8), (2, .int (cd_gapin τ N d y)), (0, .ref (L 36 d)), (1, .int (nI y))] dX1_gapPriceOf_13 (by decide) rfl ?_
  refine ga_iload_n X 2 dX1_gapPriceOf_15 rfl rfl ?_
  have J26 : ∀ (v26 : Int32), v26 = (if 0 ≤ (cd_gapin τ N d y) then 300 else 0) → ga Γ G h n 109 462 26 [(4, .int 0), (3, .ref t8), (2, .int (cd_gapin τ N d y)), (0, .ref (L 36 d)), (1, .int (nI y))] (.int v26 :: []) := by
    intro v26 ev26
    subst ev26
    refine ga_istore X [(5, .int (if 0 ≤ (cd_gapin τ N d y) then 300 else 0)), (4, .int 0), (3, .ref t8), (2, .int (cd_gapin τ N d y)), (0, .ref (L 36 d)), (1, .int (nI y))] dX1_gapPriceOf_26 (by decide) rfl ?_
    refine ga_iconst X (v := 0) dX1_gapPriceOf_28 (by decide) ?_
    refine ga_istore X [(6, .int 0), (5, .int (if 0 ≤ (cd_gapin τ N d y) then 300 else 0)), (4, .int 0), (3, .ref t8), (2, .int (cd_gapin τ N d y)), (0, .ref (L 36 d)), (1, .int (nI y))] dX1_gapPriceOf_29 (by decide) rfl ?_
    have L31 : ∀ (fu i : Nat) (h : ga_H) (n : Nat) (x4 : Int32) (x5 : Int32) (x6 : Int32), i ≤ N 15 d → N 15 d < i + fu → x4 = ((cd_gp1 τ N d y i).1) → x5 = ((cd_gp1 τ N d y i).2) → x6 = (nI i) → gc_P G L N (τ) n0 h → n0 ≤ n → (∀ a, a < n1 → h a = h1 a) → n1 ≤ n → h t8 = some (ga_I G (N 15 d) (cd_used τ N d y)) → t8 < n → ga Γ G h n 109 462 31 [(0, .ref (L 36 d)), (1, .int (nI y)), (2, .int (cd_gapin τ N d y)), (3, .ref t8), (4, .int x4), (5, .int x5), (6, .int x6)] ([]) := by
      intro fu
      induction fu with
      | zero => intro i h n x4 x5 x6 hi hd; exact absurd hd (by omega)
      | succ fu ih31 =>
        intro i h n x4 x5 x6 hi31 hd31 e4 e5 e6 hP hn hF hn1 ht_t8 hl_t8
        rw [e4]
        rw [e5]
        rw [e6]
        refine ga_iload X 6 dX1_gapPriceOf_31 rfl ?_
        refine ga_aload_n X 3 dX1_gapPriceOf_33 rfl rfl ?_
        refine ga_alen X 0 rfl (rfl : nI (N 15 d) = _) ht_t8 dX1_gapPriceOf_34 ?_
        refine ga_icmp_ge X (tgt := 113) dX1_gapPriceOf_35 (by decide) (fun c_35 => ?_) (fun c_35 => ?_)
        · have hx_35 : N 15 d = i := Nat.le_antisymm ((nI_leI (a := N 15 d) (by omega) (by omega)).mp c_35) hi31
          subst hx_35
          refine ga_iload X 4 dX1_gapPriceOf_113 rfl ?_
          refine ga_iload_n X 2 dX1_gapPriceOf_115 rfl rfl ?_
          refine ga_mabs X Y q1055 q1056 q71 q1057 (by first | decide | omega | (dsimp only; omega)) (by first | decide | omega | (dsimp only; omega)) (by first | decide | omega | (dsimp only; omega)) (by first | decide | omega | (dsimp only; omega)) (Nat.le_of_ble_eq_true rfl) dX1_gapPriceOf_116 ?_
          have J127 : ∀ (v127 : Int32), v127 = (bI (((cd_gp1 τ N d y (N 15 d)).1) = (if (0 : Int32) ≤ (cd_gapin τ N d y) then (cd_gapin τ N d y) else 0 - (cd_gapin τ N d y)))) → ga Γ G h n 109 462 127 [(0, .ref (L 36 d)), (1, .int (nI y)), (2, .int (cd_gapin τ N d y)), (3, .ref t8), (4, .int ((cd_gp1 τ N d y (N 15 d)).1)), (5, .int ((cd_gp1 τ N d y (N 15 d)).2)), (6, .int (nI (N 15 d)))] (.int v127 :: []) := by
            intro v127 ev127
            subst ev127
            refine ga_istore X [(6, .int (bI (((cd_gp1 τ N d y (N 15 d)).1) = (if (0 : Int32) ≤ (cd_gapin τ N d y) then (cd_gapin τ N d y) else 0 - (cd_gapin τ N d y))))), (0, .ref (L 36 d)), (1, .int (nI y)), (2, .int (cd_gapin τ N d y)), (3, .ref t8), (4, .int ((cd_gp1 τ N d y (N 15 d)).1)), (5, .int ((cd_gp1 τ N d y (N 15 d)).2))] dX1_gapPriceOf_127 (by decide) rfl ?_
            refine ga_iload X 0 dX1_gapPriceOf_129 rfl ?_
            have J150 : ∀ (v150 : Int32), v150 = (if ((cd_gp1 τ N d y (N 15 d)).1) = (if (0 : Int32) ≤ (cd_gapin τ N d y) then (cd_gapin τ N d y) else 0 - (cd_gapin τ N d y)) then (cd_gp1 τ N d y (N 15 d)).2 else if 0 ≤ (cd_gapin τ N d y) then 0 else 300) → ga Γ G h n 109 462 150 [(6, .int (bI (((cd_gp1 τ N d y (N 15 d)).1) = (if (0 : Int32) ≤ (cd_gapin τ N d y) then (cd_gapin τ N d y) else 0 - (cd_gapin τ N d y))))), (0, .ref (L 36 d)), (1, .int (nI y)), (2, .int (cd_gapin τ N d y)), (3, .ref t8), (4, .int ((cd_gp1 τ N d y (N 15 d)).1)), (5, .int ((cd_gp1 τ N d y (N 15 d)).2))] (.int v150 :: []) := by
              intro v150 ev150
              subst ev150
              refine ga_istore X [(5, .int (if ((cd_gp1 τ N d y (N 15 d)).1) = (if (0 : Int32) ≤ (cd_gapin τ N d y) then (cd_gapin τ N d y) else 0 - (cd_gapin τ N d y)) then (cd_gp1 τ N d y (N 15 d)).2 else if 0 ≤ (cd_gapin τ N d y) then 0 else 300)), (6, .int (bI (((cd_gp1 τ N d y (N 15 d)).1) = (if (0 : Int32) ≤ (cd_gapin τ N d y) then (cd_gapin τ N d y) else 0 - (cd_gapin τ N d y))))), (0, .ref (L 36 d)), (1, .int (nI y)), (2, .int (cd_gapin τ N d y)), (3, .ref t8), (4, .int ((cd_gp1 τ N d y (N 15 d)).1))] dX1_gapPriceOf_150 (by decide) rfl ?_
              refine ga_iconst X (v := 0) dX1_gapPriceOf_152 (by decide) ?_
              refine ga_istore X [(7, .int 0), (5, .int (if ((cd_gp1 τ N d y (N 15 d)).1) = (if (0 : Int32) ≤ (cd_gapin τ N d y) then (cd_gapin τ N d y) else 0 - (cd_gapin τ N d y)) then (cd_gp1 τ N d y (N 15 d)).2 else if 0 ≤ (cd_gapin τ N d y) then 0 else 300)), (6, .int (bI (((cd_gp1 τ N d y (N 15 d)).1) = (if (0 : Int32) ≤ (cd_gapin τ N d y) then (cd_gapin τ N d y) else 0 - (cd_gapin τ N d y))))), (0, .ref (L 36 d)), (1, .int (nI y)), (2, .int (cd_gapin τ N d y)), (3, .ref t8), (4, .int ((cd_gp1 τ N d y (N 15 d)).1))] dX1_gapPriceOf_153 (by decide) rfl ?_
              have L155 : ∀ (fu i : Nat) (h : ga_H) (n : Nat) (x5 : Int32) (x7 : Int32), i ≤ 3 → 3 < i + fu → x5 = (cd_gp2 τ N d y i) → x7 = (nI i) → gc_P G L N (τ) n0 h → n0 ≤ n → (∀ a, a < n1 → h a = h1 a) → n1 ≤ n → h t8 = some (ga_I G (N 15 d) (cd_used τ N d y)) → t8 < n → ga Γ G h n 109 462 155 [(0, .ref (L 36 d)), (1, .int (nI y)), (2, .int (cd_gapin τ N d y)), (5, .int x5), (7, .int x7)] ([]) := by
                intro fu
                induction fu with
                | zero => intro i h n x5 x7 hi hd; exact absurd hd (by omega)
                | succ fu ih155 =>
                  intro i h n x5 x7 hi155 hd155 e5 e7 hP hn hF hn1 ht_t8 hl_t8
                  rw [e5]
                  rw [e7]
                  refine ga_iload X 4 dX1_gapPriceOf_155 rfl ?_
                  refine ga_iconst X (v := 3) dX1_gapPriceOf_157 (by decide) ?_
                  refine ga_icmp_ge X (tgt := 204) dX1_gapPriceOf_158 (by decide) (fun c_158 => ?_) (fun c_158 => ?_)
                  · have hx_158 : 3 = i := Nat.le_antisymm ((nI_leI (a := 3) (by omega) (by omega)).mp c_158) hi155
                    subst hx_158
                    refine ga_iload_n X 2 dX1_gapPriceOf_204 rfl rfl ?_
                    have J214 : ∀ (v214 : Int32), v214 = (if (cd_gapin τ N d y) = 0 then (-1) else cd_gp2 τ N d y 3) → ga Γ G h n 109 462 214 [(0, .ref (L 36 d)), (1, .int (nI y)), (2, .int (cd_gapin τ N d y)), (5, .int (cd_gp2 τ N d y 3)), (7, .int (nI 3))] (.int v214 :: []) := by
                      intro v214 ev214
                      subst ev214
                      exact ga_iret X Y dX1_gapPriceOf_214 (by first | decide | omega | (dsimp only; omega)) (by first | decide | omega | (dsimp only; omega)) ⟨congrArg (fun z => some (Value.int z)) (show (if (cd_gapin τ N d y) = 0 then (-1) else cd_gp2 τ N d y 3) = cd_gapPrice τ N d y from by unfold cd_gapPrice; exact (rfl).symm), hn1, hF⟩
                    refine ga_if_ne X (tgt := 212) dX1_gapPriceOf_205 (by decide) (fun c_205 => ?_) (fun c_205 => ?_)
                    · refine ga_iload X 3 dX1_gapPriceOf_212 rfl ?_
                      exact J214 _ ((if_neg c_205).symm)
                    · refine ga_iconst X (v := (-1)) dX1_gapPriceOf_208 (by decide) ?_
                      refine ga_goto X (tgt := 214) dX1_gapPriceOf_209 (by decide) ?_
                      exact J214 _ ((if_pos c_205).symm)
                  · have hx_158 : i < 3 := Nat.lt_of_not_le fun z => c_158 ((nI_leI (a := 3) (by omega) (by omega)).mpr z)
                    refine ga_aload_n X 0 dX1_gapPriceOf_161 rfl rfl ?_
                    refine ga_getN X in_X2 (ci := 1) rfl 6 (by decide) q155 rfl (hP.r36 hd) rfl dX1_gapPriceOf_162 ?_
                    refine ga_st (st' := .ref (L 40 d) :: []) (by rw [if_neg hr]) ?_
                    refine ga_getN X in_X8 (ci := 7) rfl 1 (by decide) q1014 rfl (hP.r40 hd hr) rfl dX1_gapPriceOf_165 ?_
                    refine ga_iload_n X 1 dX1_gapPriceOf_168 rfl rfl ?_
                    obtain ⟨f_1, hf_1, hv_1⟩ := hP.r43 hd hr
                    refine ga_aald X (k := 6) y rfl (by omega) (by decide) rfl rfl hf_1 dX1_gapPriceOf_169 (show va_rf (f_1 y) = .ref (L 44 (4 * d + y)) by rw [hv_1 y (by omega)]; rfl) ?_
                    refine ga_iload X 4 dX1_gapPriceOf_170 rfl ?_
                    obtain ⟨f_2, hf_2, hv_2⟩ := hP.r44 hd hr (by omega)
                    refine ga_iald X i rfl (by omega) (by decide) hf_2 dX1_gapPriceOf_172 ?_
                    refine ga_st (st' := .int (τ 4400 (3 * (4 * d + y) + i)) :: []) (by rw [hv_2 i (by omega)]) ?_
                    refine ga_istore X [(8, .int (τ 4400 (3 * (4 * d + y) + i))), (0, .ref (L 36 d)), (1, .int (nI y)), (2, .int (cd_gapin τ N d y)), (5, .int (cd_gp2 τ N d y i)), (7, .int (nI i))] dX1_gapPriceOf_173 (by decide) rfl ?_
                    refine ga_iload_n X 3 dX1_gapPriceOf_175 rfl rfl ?_
                    have J196 : ∀ (v196 : Int32), v196 = (if 0 ≤ (cd_gapin τ N d y) then if (τ 4400 (3 * (4 * d + y) + i)) < (cd_gp2 τ N d y i) then (τ 4400 (3 * (4 * d + y) + i)) else (cd_gp2 τ N d y i) else if (cd_gp2 τ N d y i) < (τ 4400 (3 * (4 * d + y) + i)) then (τ 4400 (3 * (4 * d + y) + i)) else (cd_gp2 τ N d y i)) → ga Γ G h n 109 462 196 [(8, .int (τ 4400 (3 * (4 * d + y) + i))), (0, .ref (L 36 d)), (1, .int (nI y)), (2, .int (cd_gapin τ N d y)), (5, .int (cd_gp2 τ N d y i)), (7, .int (nI i))] (.int v196 :: []) := by
                      intro v196 ev196
                      subst ev196
                      refine ga_istore X [(5, .int (if 0 ≤ (cd_gapin τ N d y) then if (τ 4400 (3 * (4 * d + y) + i)) < (cd_gp2 τ N d y i) then (τ 4400 (3 * (4 * d + y) + i)) else (cd_gp2 τ N d y i) else if (cd_gp2 τ N d y i) < (τ 4400 (3 * (4 * d + y) + i)) then (τ 4400 (3 * (4 * d + y) + i)) else (cd_gp2 τ N d y i))), (8, .int (τ 4400 (3 * (4 * d + y) + i))), (0, .ref (L 36 d)), (1, .int (nI y)), (2, .int (cd_gapin τ N d y)), (7, .int (nI i))] dX1_gapPriceOf_196 (by decide) rfl ?_
                      refine ga_iinc X 5 [(7, .int (nI (i + 1))), (5, .int (if 0 ≤ (cd_gapin τ N d y) then if (τ 4400 (3 * (4 * d + y) + i)) < (cd_gp2 τ N d y i) then (τ 4400 (3 * (4 * d + y) + i)) else (cd_gp2 τ N d y i) else if (cd_gp2 τ N d y i) < (τ 4400 (3 * (4 * d + y) + i)) then (τ 4400 (3 * (4 * d + y) + i)) else (cd_gp2 τ N d y i))), (8, .int (τ 4400 (3 * (4 * d + y) + i))), (0, .ref (L 36 d)), (1, .int (nI y)), (2, .int (cd_gapin τ N d y))] dX1_gapPriceOf_198 rfl (nI_1 i) (by decide) rfl ?_
                      refine ga_goto X (tgt := 155) dX1_gapPriceOf_201 (by decide) ?_
                      refine ga_sub [3, 4, 5, 1, 0] rfl ?_
                      exact ih155 (i + 1) h n _ _ (by omega) (by omega) ((cd_gp2_s τ N d y i).symm) rfl hP hn hF hn1 ht_t8 hl_t8
                    refine ga_if_ge X (tgt := 189) dX1_gapPriceOf_176 (by decide) (fun c_176 => ?_) (fun c_176 => ?_)
                    · refine ga_iload X 4 dX1_gapPriceOf_189 rfl ?_
                      refine ga_iload X 0 dX1_gapPriceOf_191 rfl ?_
                      refine ga_mmin X Y q1127 q510 q71 q511 (by first | decide | omega | (dsimp only; omega)) (by first | decide | omega | (dsimp only; omega)) (by first | decide | omega | (dsimp only; omega)) (by first | decide | omega | (dsimp only; omega)) (Nat.le_of_ble_eq_true rfl) dX1_gapPriceOf_193 ?_
                      exact J196 _ ((if_pos c_176).symm)
                    · refine ga_iload X 4 dX1_gapPriceOf_179 rfl ?_
                      refine ga_iload X 0 dX1_gapPriceOf_181 rfl ?_
                      refine ga_mmax X Y q1081 q469 q71 q470 (by first | decide | omega | (dsimp only; omega)) (by first | decide | omega | (dsimp only; omega)) (by first | decide | omega | (dsimp only; omega)) (by first | decide | omega | (dsimp only; omega)) (Nat.le_of_ble_eq_true rfl) dX1_gapPriceOf_183 ?_
                      refine ga_goto X (tgt := 196) dX1_gapPriceOf_186 (by decide) ?_
                      exact J196 _ ((if_neg c_176).symm)
              refine ga_sub [3, 4, 5, 1, 0] rfl ?_
              exact L155 (3 + 1) 0 h n _ _ (by omega) (by omega) rfl rfl hP hn hF hn1 ht_t8 hl_t8
            refine ga_ifb_eq X (tgt := 139) dX1_gapPriceOf_131 (by decide) (fun c_131 => ?_) (fun c_131 => ?_)
            · refine ga_iload_n X 3 dX1_gapPriceOf_139 rfl rfl ?_
              refine ga_if_ge X (tgt := 149) dX1_gapPriceOf_140 (by decide) (fun c_140 => ?_) (fun c_140 => ?_)
              · refine ga_iconst X (v := 0) dX1_gapPriceOf_149 (by decide) ?_
                exact J150 _ (((if_neg c_131).trans (if_pos c_140)).symm)
              · refine ga_sipush X (v := 300) dX1_gapPriceOf_143 (by decide) ?_
                refine ga_goto X (tgt := 150) dX1_gapPriceOf_146 (by decide) ?_
                exact J150 _ (((if_neg c_131).trans (if_neg c_140)).symm)
            · refine ga_iload X 6 dX1_gapPriceOf_134 rfl ?_
              refine ga_goto X (tgt := 150) dX1_gapPriceOf_136 (by decide) ?_
              exact J150 _ ((if_pos c_131).symm)
          refine ga_icmp_ne X (tgt := 126) dX1_gapPriceOf_119 (by decide) (fun c_119 => ?_) (fun c_119 => ?_)
          · refine ga_iconst X (v := 0) dX1_gapPriceOf_126 (by decide) ?_
            exact J127 _ ((bI_f c_119).symm)
          · refine ga_iconst X (v := 1) dX1_gapPriceOf_122 (by decide) ?_
            refine ga_goto X (tgt := 127) dX1_gapPriceOf_123 (by decide) ?_
            exact J127 _ ((bI_t c_119).symm)
        · have hx_35 : i < N 15 d := Nat.lt_of_not_le fun z => c_35 ((nI_leI (a := N 15 d) (by omega) (by omega)).mpr z)
          refine ga_iload X 4 dX1_gapPriceOf_38 rfl ?_
          refine ga_aload_n X 3 dX1_gapPriceOf_40 rfl rfl ?_
          refine ga_iload X 6 dX1_gapPriceOf_41 rfl ?_
          refine ga_iald X i rfl (by omega) (by omega) ht_t8 dX1_gapPriceOf_43 ?_
          refine ga_iadd X dX1_gapPriceOf_44 ?_
          refine ga_istore X [(4, .int (((cd_gp1 τ N d y i).1) + ((cd_used τ N d y) i))), (0, .ref (L 36 d)), (1, .int (nI y)), (2, .int (cd_gapin τ N d y)), (3, .ref t8), (5, .int ((cd_gp1 τ N d y i).2)), (6, .int (nI i))] dX1_gapPriceOf_45 (by decide) rfl ?_
          refine ga_aload_n X 4 dX1_gapPriceOf_47 rfl rfl ?_
          refine ga_iload X 6 dX1_gapPriceOf_48 rfl ?_
          refine ga_iald X i rfl (by omega) (by omega) ht_t8 dX1_gapPriceOf_50 ?_
          have J107 : ∀ (v107 : Int32), v107 = (if ((cd_used τ N d y) i) ≤ 0 then (cd_gp1 τ N d y i).2 else if 0 ≤ (cd_gapin τ N d y) then if (τ 3503 (1024 * d + i)) < ((cd_gp1 τ N d y i).2) then (τ 3503 (1024 * d + i)) else ((cd_gp1 τ N d y i).2) else if ((cd_gp1 τ N d y i).2) < (τ 3503 (1024 * d + i)) then (τ 3503 (1024 * d + i)) else ((cd_gp1 τ N d y i).2)) → ga Γ G h n 109 462 107 [(4, .int (((cd_gp1 τ N d y i).1) + ((cd_used τ N d y) i))), (0, .ref (L 36 d)), (1, .int (nI y)), (2, .int (cd_gapin τ N d y)), (3, .ref t8), (5, .int v107), (6, .int (nI i))] ([]) := by
            intro v107 ev107
            subst ev107
            refine ga_iinc X 6 [(6, .int (nI (i + 1))), (4, .int (((cd_gp1 τ N d y i).1) + ((cd_used τ N d y) i))), (0, .ref (L 36 d)), (1, .int (nI y)), (2, .int (cd_gapin τ N d y)), (3, .ref t8), (5, .int (if ((cd_used τ N d y) i) ≤ 0 then (cd_gp1 τ N d y i).2 else if 0 ≤ (cd_gapin τ N d y) then if (τ 3503 (1024 * d + i)) < ((cd_gp1 τ N d y i).2) then (τ 3503 (1024 * d + i)) else ((cd_gp1 τ N d y i).2) else if ((cd_gp1 τ N d y i).2) < (τ 3503 (1024 * d + i)) then (τ 3503 (1024 * d + i)) else ((cd_gp1 τ N d y i).2)))] dX1_gapPriceOf_107 rfl (nI_1 i) (by decide) rfl ?_
            refine ga_goto X (tgt := 31) dX1_gapPriceOf_110 (by decide) ?_
            refine ga_sub [2, 3, 4, 5, 1, 6, 0] rfl ?_
            exact ih31 (i + 1) h n _ _ _ (by omega) (by omega) (congrArg (fun z => z.1) (cd_gp1_s τ N d y i).symm) (congrArg (fun z => z.2) (cd_gp1_s τ N d y i).symm) rfl hP hn hF hn1 ht_t8 hl_t8
          refine ga_if_le X (tgt := 107) dX1_gapPriceOf_51 (by decide) (fun c_51 => ?_) (fun c_51 => ?_)
          · exact J107 _ ((if_pos c_51).symm)
          · refine ga_iload_n X 3 dX1_gapPriceOf_54 rfl rfl ?_
            have J105 : ∀ (v105 : Int32), v105 = (if 0 ≤ (cd_gapin τ N d y) then if (τ 3503 (1024 * d + i)) < ((cd_gp1 τ N d y i).2) then (τ 3503 (1024 * d + i)) else ((cd_gp1 τ N d y i).2) else if ((cd_gp1 τ N d y i).2) < (τ 3503 (1024 * d + i)) then (τ 3503 (1024 * d + i)) else ((cd_gp1 τ N d y i).2)) → ga Γ G h n 109 462 105 [(4, .int (((cd_gp1 τ N d y i).1) + ((cd_used τ N d y) i))), (0, .ref (L 36 d)), (1, .int (nI y)), (2, .int (cd_gapin τ N d y)), (3, .ref t8), (5, .int ((cd_gp1 τ N d y i).2)), (6, .int (nI i))] (.int v105 :: []) := by
              intro v105 ev105
              subst ev105
              refine ga_istore X [(5, .int (if 0 ≤ (cd_gapin τ N d y) then if (τ 3503 (1024 * d + i)) < ((cd_gp1 τ N d y i).2) then (τ 3503 (1024 * d + i)) else ((cd_gp1 τ N d y i).2) else if ((cd_gp1 τ N d y i).2) < (τ 3503 (1024 * d + i)) then (τ 3503 (1024 * d + i)) else ((cd_gp1 τ N d y i).2))), (4, .int (((cd_gp1 τ N d y i).1) + ((cd_used τ N d y) i))), (0, .ref (L 36 d)), (1, .int (nI y)), (2, .int (cd_gapin τ N d y)), (3, .ref t8), (6, .int (nI i))] dX1_gapPriceOf_105 (by decide) rfl ?_
              refine ga_sub [1, 2, 3, 4, 5, 0, 6] rfl ?_
              exact J107 _ ((if_neg c_51).symm)
            refine ga_if_ge X (tgt := 83) dX1_gapPriceOf_55 (by decide) (fun c_55 => ?_) (fun c_55 => ?_)
            · refine ga_iload X 5 dX1_gapPriceOf_83 rfl ?_
              refine ga_aload_n X 1 dX1_gapPriceOf_85 rfl rfl ?_
              refine ga_getN X in_X2 (ci := 1) rfl 5 (by decide) q154 rfl (hP.r36 hd) rfl dX1_gapPriceOf_86 ?_
              refine ga_iload X 6 dX1_gapPriceOf_89 rfl ?_
              have hj_7 : i < N 15 d := (by omega)
              obtain ⟨f_7, hE_7, hk_7, hb_7, hf_7, he_7⟩ := hP.r25 hd (by omega)
              refine ga_callF X Y (jm_get _ X.tr G (L 15 d) (gc_e G L N 15 d) (N 15 d) (N 25 d) i _ (τ 1500 d) f_7 _ _ (hP.r15 hd) hE_7 hj_7 hk_7 (by omega) (hf_7 i hj_7)) wX1_91 (ci := 11) rfl (hP.r15 hd) ⟨Nat.le_of_ble_eq_true rfl, Nat.le_of_ble_eq_true rfl⟩ ⟨(by first | decide | omega | (dsimp only; omega)), (by first | decide | omega | (dsimp only; omega))⟩ rfl (Nat.le_of_ble_eq_true rfl) dX1_gapPriceOf_91 (fun v9 h9 n9 hq _ => ?_) (fun _ _ _ q _ => q.elim)
              obtain ⟨rfl, hq2, hq3⟩ := hq
              rw [hq2, hq3]
              show ga Γ G _ _ _ _ 96 [(4, .int (((cd_gp1 τ N d y i).1) + ((cd_used τ N d y) i))), (0, .ref (L 36 d)), (1, .int (nI y)), (2, .int (cd_gapin τ N d y)), (3, .ref t8), (5, .int ((cd_gp1 τ N d y i).2)), (6, .int (nI i))] (.ref (L 35 (1024 * d + i)) :: .int ((cd_gp1 τ N d y i).2) :: [])
              refine ga_cast X (ci := 10) rfl q1241 (hP.r35 hd hj_7) dX1_gapPriceOf_96 ?_
              refine ga_getN X in_X13 (ci := 10) rfl 3 (by decide) q1254 rfl (hP.r35 hd hj_7) rfl dX1_gapPriceOf_99 ?_
              refine ga_mmin X Y q1127 q510 q71 q511 (by first | decide | omega | (dsimp only; omega)) (by first | decide | omega | (dsimp only; omega)) (by first | decide | omega | (dsimp only; omega)) (by first | decide | omega | (dsimp only; omega)) (Nat.le_of_ble_eq_true rfl) dX1_gapPriceOf_102 ?_
              exact J105 _ ((if_pos c_55).symm)
            · refine ga_iload X 5 dX1_gapPriceOf_58 rfl ?_
              refine ga_aload_n X 1 dX1_gapPriceOf_60 rfl rfl ?_
              refine ga_getN X in_X2 (ci := 1) rfl 5 (by decide) q154 rfl (hP.r36 hd) rfl dX1_gapPriceOf_61 ?_
              refine ga_iload X 6 dX1_gapPriceOf_64 rfl ?_
              have hj_8 : i < N 15 d := (by omega)
              obtain ⟨f_8, hE_8, hk_8, hb_8, hf_8, he_8⟩ := hP.r25 hd (by omega)
              refine ga_callF X Y (jm_get _ X.tr G (L 15 d) (gc_e G L N 15 d) (N 15 d) (N 25 d) i _ (τ 1500 d) f_8 _ _ (hP.r15 hd) hE_8 hj_8 hk_8 (by omega) (hf_8 i hj_8)) wX1_91 (ci := 11) rfl (hP.r15 hd) ⟨Nat.le_of_ble_eq_true rfl, Nat.le_of_ble_eq_true rfl⟩ ⟨(by first | decide | omega | (dsimp only; omega)), (by first | decide | omega | (dsimp only; omega))⟩ rfl (Nat.le_of_ble_eq_true rfl) dX1_gapPriceOf_66 (fun v9 h9 n9 hq _ => ?_) (fun _ _ _ q _ => q.elim)
              obtain ⟨rfl, hq2, hq3⟩ := hq
              rw [hq2, hq3]
              show ga Γ G _ _ _ _ 71 [(4, .int (((cd_gp1 τ N d y i).1) + ((cd_used τ N d y) i))), (0, .ref (L 36 d)), (1, .int (nI y)), (2, .int (cd_gapin τ N d y)), (3, .ref t8), (5, .int ((cd_gp1 τ N d y i).2)), (6, .int (nI i))] (.ref (L 35 (1024 * d + i)) :: .int ((cd_gp1 τ N d y i).2) :: [])
              refine ga_cast X (ci := 10) rfl q1241 (hP.r35 hd hj_8) dX1_gapPriceOf_71 ?_
              refine ga_getN X in_X13 (ci := 10) rfl 3 (by decide) q1254 rfl (hP.r35 hd hj_8) rfl dX1_gapPriceOf_74 ?_
              refine ga_mmax X Y q1081 q469 q71 q470 (by first | decide | omega | (dsimp only; omega)) (by first | decide | omega | (dsimp only; omega)) (by first | decide | omega | (dsimp only; omega)) (by first | decide | omega | (dsimp only; omega)) (Nat.le_of_ble_eq_true rfl) dX1_gapPriceOf_77 ?_
              refine ga_goto X (tgt := 105) dX1_gapPriceOf_80 (by decide) ?_
              exact J105 _ ((if_neg c_55).symm)
    refine ga_sub [5, 6, 4, 3, 2, 1, 0] rfl ?_
    exact L31 (N 15 d + 1) 0 h n _ _ _ (by omega) (by omega) rfl rfl rfl hP hn hF hn1 ht_t8 hl_t8
  refine ga_if_ge X (tgt := 23) dX1_gapPriceOf_16 (by decide) (fun c_16 => ?_) (fun c_16 => ?_)
  · refine ga_sipush X (v := 300) dX1_gapPriceOf_23 (by decide) ?_
    exact J26 _ ((if_pos c_16).symm)
  · refine ga_iconst X (v := 0) dX1_gapPriceOf_19 (by decide) ?_
    refine ga_goto X (tgt := 26) dX1_gapPriceOf_20 (by decide) ?_
    exact J26 _ ((if_neg c_16).symm)
def cd_tr1 (τ : gm_S) (N : gc_L) (d : Nat) (f : Int32) : Nat → Int32
  | 0 => 0
  | i + 1 => (cd_tr1 τ N d f i) + (if (τ 3003 (1024 * d + i)) = 0 then if (τ 3000 (1024 * d + i)) = f then (τ 3006 (1024 * d + i)) * (τ 4400 (3 * (4 * d + (cx (τ 3002 (1024 * d + i)))) + (cx (τ 3001 (1024 * d + i))))) else 0 else -(if (τ 3000 (1024 * d + i)) = f then (τ 3006 (1024 * d + i)) * (τ 4400 (3 * (4 * d + (cx (τ 3002 (1024 * d + i)))) + (cx (τ 3001 (1024 * d + i))))) else 0))
theorem cd_tr1_s (τ : gm_S) (N : gc_L) (d : Nat) (f : Int32) (i : Nat) : cd_tr1 τ N d f (i + 1) = (cd_tr1 τ N d f i) + (if (τ 3003 (1024 * d + i)) = 0 then if (τ 3000 (1024 * d + i)) = f then (τ 3006 (1024 * d + i)) * (τ 4400 (3 * (4 * d + (cx (τ 3002 (1024 * d + i)))) + (cx (τ 3001 (1024 * d + i))))) else 0 else -(if (τ 3000 (1024 * d + i)) = f then (τ 3006 (1024 * d + i)) * (τ 4400 (3 * (4 * d + (cx (τ 3002 (1024 * d + i)))) + (cx (τ 3001 (1024 * d + i))))) else 0)) := rfl
def cd_tr2i (τ : gm_S) (N : gc_L) (d : Nat) (f : Int32) (j : Nat) (s0 : Int32) : Nat → Int32
  | 0 => s0
  | i + 1 => (cd_tr2i τ N d f j s0 i) + (if (τ 3103 (1024 * d + j)) = 0 then if (τ 3100 (1024 * d + j)) = f then if (τ 3108 (1024 * d + j)) = 0 then 0 else if (cd_isIn τ d j (nI i)) = 0 then 0 else (τ 3105 (1024 * d + j)) * (τ 4400 (3 * (4 * d + i) + (cx (τ 3101 (1024 * d + j))))) else 0 else -(if (τ 3100 (1024 * d + j)) = f then if (τ 3108 (1024 * d + j)) = 0 then 0 else if (cd_isIn τ d j (nI i)) = 0 then 0 else (τ 3105 (1024 * d + j)) * (τ 4400 (3 * (4 * d + i) + (cx (τ 3101 (1024 * d + j))))) else 0))
theorem cd_tr2i_s (τ : gm_S) (N : gc_L) (d : Nat) (f : Int32) (j : Nat) (s0 : Int32) (i : Nat) : cd_tr2i τ N d f j s0 (i + 1) = (cd_tr2i τ N d f j s0 i) + (if (τ 3103 (1024 * d + j)) = 0 then if (τ 3100 (1024 * d + j)) = f then if (τ 3108 (1024 * d + j)) = 0 then 0 else if (cd_isIn τ d j (nI i)) = 0 then 0 else (τ 3105 (1024 * d + j)) * (τ 4400 (3 * (4 * d + i) + (cx (τ 3101 (1024 * d + j))))) else 0 else -(if (τ 3100 (1024 * d + j)) = f then if (τ 3108 (1024 * d + j)) = 0 then 0 else if (cd_isIn τ d j (nI i)) = 0 then 0 else (τ 3105 (1024 * d + j)) * (τ 4400 (3 * (4 * d + i) + (cx (τ 3101 (1024 * d + j))))) else 0)) := rfl
def cd_tr2 (τ : gm_S) (N : gc_L) (d : Nat) (f : Int32) : Nat → Int32
  | 0 => cd_tr1 τ N d f (N 10 d)
  | k + 1 => cd_tr2i τ N d f k (cd_tr2 τ N d f k) 4
theorem cd_tr2_s (τ : gm_S) (N : gc_L) (d : Nat) (f : Int32) (k : Nat) : cd_tr2 τ N d f (k + 1) = cd_tr2i τ N d f k (cd_tr2 τ N d f k) 4 := rfl
def cd_tr3i (τ : gm_S) (N : gc_L) (d : Nat) (f : Int32) (j : Nat) (s0 : Int32) : Nat → Int32
  | 0 => s0
  | i + 1 => (cd_tr3i τ N d f j s0 i) + ((τ 3205 (1024 * d + j)) * (if 0 < ((τ 4400 (3 * (4 * d + i) + (cx (τ 3202 (1024 * d + j))))) - (τ 4400 (3 * (4 * d + i) + (cx (τ 3201 (1024 * d + j)))))) then ((τ 4400 (3 * (4 * d + i) + (cx (τ 3202 (1024 * d + j))))) - (τ 4400 (3 * (4 * d + i) + (cx (τ 3201 (1024 * d + j)))))) else 0))
theorem cd_tr3i_s (τ : gm_S) (N : gc_L) (d : Nat) (f : Int32) (j : Nat) (s0 : Int32) (i : Nat) : cd_tr3i τ N d f j s0 (i + 1) = (cd_tr3i τ N d f j s0 i) + ((τ 3205 (1024 * d + j)) * (if 0 < ((τ 4400 (3 * (4 * d + i) + (cx (τ 3202 (1024 * d + j))))) - (τ 4400 (3 * (4 * d + i) + (cx (τ 3201 (1024 * d + j)))))) then ((τ 4400 (3 * (4 * d + i) + (cx (τ 3202 (1024 * d + j))))) - (τ 4400 (3 * (4 * d + i) + (cx (τ 3201 (1024 * d + j)))))) else 0)) := rfl
def cd_tr3 (τ : gm_S) (N : gc_L) (d : Nat) (f : Int32) : Nat → Int32
  | 0 => cd_tr2 τ N d f (N 11 d)
  | k + 1 => (if τ 3200 (1024 * d + k) = f then (cd_tr3i τ N d f k (cd_tr3 τ N d f k) 4) else cd_tr3 τ N d f k) - (if (τ 3200 (1024 * d + k)) = f then τ 3206 (1024 * d + k) else 0)
theorem cd_tr3_s (τ : gm_S) (N : gc_L) (d : Nat) (f : Int32) (k : Nat) : cd_tr3 τ N d f (k + 1) = (if τ 3200 (1024 * d + k) = f then (cd_tr3i τ N d f k (cd_tr3 τ N d f k) 4) else cd_tr3 τ N d f k) - (if (τ 3200 (1024 * d + k)) = f then τ 3206 (1024 * d + k) else 0) := rfl
def cd_tr4 (τ : gm_S) (N : gc_L) (d : Nat) (f : Int32) : Nat → Int32
  | 0 => cd_tr3 τ N d f (N 12 d)
  | i + 1 => ((cd_tr4 τ N d f i) - (if (τ 3300 (1024 * d + (N 64 (1024 * d + i)))) = f then (τ 3403 (1024 * d + i)) * (τ 3402 (1024 * d + i)) else 0)) + (if (τ 3300 (1024 * d + (N 65 (1024 * d + i)))) = f then (τ 3403 (1024 * d + i)) * (τ 3402 (1024 * d + i)) else 0)
theorem cd_tr4_s (τ : gm_S) (N : gc_L) (d : Nat) (f : Int32) (i : Nat) : cd_tr4 τ N d f (i + 1) = ((cd_tr4 τ N d f i) - (if (τ 3300 (1024 * d + (N 64 (1024 * d + i)))) = f then (τ 3403 (1024 * d + i)) * (τ 3402 (1024 * d + i)) else 0)) + (if (τ 3300 (1024 * d + (N 65 (1024 * d + i)))) = f then (τ 3403 (1024 * d + i)) * (τ 3402 (1024 * d + i)) else 0) := rfl
def cd_tradesOf (τ : gm_S) (N : gc_L) (d : Nat) (f : Int32) : Int32 := cd_tr4 τ N d f (N 14 d)
set_option maxHeartbeats 4000000 in
theorem cm_tradesOf (l : Launch) (hl : l.stackTraces = false) (G : ga_X) (L N : gc_L) (τ : gm_S) (d : Nat) (f : Int32) (hd : d ≤ N 16 0) (hr : N 40 d ≠ 0) (hV : gc_V N τ) : gq_C l G yX1_tradesOf cX1_tradesOf 8 (some FieldType.int) ({ frames := 3, cells := 4, slots := 16, locals := 61 } : Room) [.ref (L 36 d), .int f] L N τ (.int (cd_tradesOf τ N d f)) := by
  refine gq_start RX1 hl rfl (by decide) (Nat.le_of_ble_eq_true rfl) (fun Γ h1 h n0 n1 n e X Y hP hn hF hn1 hn01 => ?_)
  subst e
  show ga Γ G h n 0 0 0 [(0, .ref (L 36 d)), (1, .int f)] []
  refine ga_iconst X (v := 0) dX1_tradesOf_0 (by decide) ?_
  refine ga_istore_n X [(2, .int 0), (0, .ref (L 36 d)), (1, .int f)] dX1_tradesOf_1 rfl (by decide) rfl ?_
  refine ga_aload_n X 1 dX1_tradesOf_2 rfl rfl ?_
  refine ga_getN X in_X2 (ci := 1) rfl 6 (by decide) q155 rfl (hP.r36 hd) rfl dX1_tradesOf_3 ?_
  refine ga_st (st' := .ref (L 40 d) :: []) (by rw [if_neg hr]) ?_
  refine ga_getN X in_X8 (ci := 7) rfl 1 (by decide) q1014 rfl (hP.r40 hd hr) rfl dX1_tradesOf_6 ?_
  refine ga_astore_n X [(3, .ref (L 43 d)), (2, .int 0), (0, .ref (L 36 d)), (1, .int f)] dX1_tradesOf_9 rfl (by decide) rfl ?_
  refine ga_aload_n X 2 dX1_tradesOf_10 rfl rfl ?_
  refine ga_getN X in_X2 (ci := 1) rfl 0 (by decide) q144 rfl (hP.r36 hd) rfl dX1_tradesOf_11 ?_
  refine ga_callF X Y (jm_iter _ X.tr G (L 10 d) (gc_e G L N 10 d) (N 10 d) (τ 1000 d) _ _ (hP.r10 hd) (Nat.lt_of_lt_of_le (hP.lt (hP.l10 hd)) hn) (Nat.le_trans hP.G hn)) wX1_218 (ci := 11) rfl (hP.r10 hd) ⟨Nat.le_of_ble_eq_true rfl, Nat.le_of_ble_eq_true rfl⟩ ⟨(by first | decide | omega | (dsimp only; omega)), (by first | decide | omega | (dsimp only; omega))⟩ rfl (Nat.le_of_ble_eq_true rfl) dX1_tradesOf_14 (fun v9 h9 n9 hq _ => ?_) (fun _ _ _ q _ => q.elim)
  obtain ⟨rfl, hq2, hq3⟩ := hq
  rw [hq2, hq3]
  refine ga_widen (k2 := 1) (n2 := 4) (by first | decide | omega | (dsimp only; omega)) (by first | decide | omega | (dsimp only; omega)) ?_
  refine gq_al (P := fun t h n => ga Γ G h n 1 4 19 [(3, .ref (L 43 d)), (2, .int 0), (0, .ref (L 36 d)), (1, .int f)] (.ref t :: [])) hP hn hF hn1 (fun t14 h n hP hn hF hn1 hk ht_t14 hl_t14 ha_t14 hb_t14 he_t14 => ?_)
  refine ga_astore X [(4, .ref t14), (3, .ref (L 43 d)), (2, .int 0), (0, .ref (L 36 d)), (1, .int f)] dX1_tradesOf_19 (by decide) rfl ?_
  have L21 : ∀ (fu i : Nat) (lr : Int32) (h : ga_H) (n : Nat) (x2 : Int32), i ≤ N 10 d → N 10 d < i + fu → x2 = (cd_tr1 τ N d f i) → gc_P G L N (τ) n0 h → n0 ≤ n → (∀ a, a < n1 → h a = h1 a) → n1 ≤ n → h t14 = some (ga_O 12 [.int (nI i), .int lr, .int (τ 1000 d), .ref (L 10 d)]) → t14 < n → ga Γ G h n 1 4 21 [(0, .ref (L 36 d)), (1, .int f), (2, .int x2), (3, .ref (L 43 d)), (4, .ref t14)] ([]) := by
    intro fu
    induction fu with
    | zero => intro i lr h n x2 hi hd; exact absurd hd (by omega)
    | succ fu ih21 =>
      intro i lr h n x2 hi21 hd21 e2 hP hn hF hn1 ht_t14 hl_t14
      rw [e2]
      refine ga_aload X 4 dX1_tradesOf_21 rfl ?_
      refine ga_callF X Y (jm_hn _ X.tr G t14 (L 10 d) (gc_e G L N 10 d) (N 10 d) i (τ 1000 d) lr _ _ ht_t14 (hP.r10 hd) (by omega) (Nat.lt_of_le_of_lt (hP.n10 d) (by decide))) wX1_222 (ci := 12) rfl ht_t14 ⟨Nat.le_of_ble_eq_true rfl, Nat.le_of_ble_eq_true rfl⟩ ⟨(by first | decide | omega | (dsimp only; omega)), (by first | decide | omega | (dsimp only; omega))⟩ rfl (Nat.le_of_ble_eq_true rfl) dX1_tradesOf_23 (fun v9 h9 n9 hq _ => ?_) (fun _ _ _ q _ => q.elim)
      obtain ⟨rfl, hq2, hq3⟩ := hq
      rw [hq2, hq3]
      show ga Γ G _ _ _ _ 28 [(0, .ref (L 36 d)), (1, .int f), (2, .int (cd_tr1 τ N d f i)), (3, .ref (L 43 d)), (4, .ref t14)] (.int (bI (i < N 10 d)) :: [])
      refine ga_ifb_eq X (tgt := 99) dX1_tradesOf_28 (by decide) (fun c_28 => ?_) (fun c_28 => ?_)
      · have hx_28 : N 10 d = i := Nat.le_antisymm (Nat.le_of_not_lt c_28) hi21
        subst hx_28
        refine ga_aload_n X 0 dX1_tradesOf_99 rfl rfl ?_
        refine ga_getN X in_X2 (ci := 1) rfl 1 (by decide) q146 rfl (hP.r36 hd) rfl dX1_tradesOf_100 ?_
        refine ga_callF X Y (jm_iter _ X.tr G (L 11 d) (gc_e G L N 11 d) (N 11 d) (τ 1100 d) _ _ (hP.r11 hd) (Nat.lt_of_lt_of_le (hP.lt (hP.l11 hd)) hn) (Nat.le_trans hP.G hn)) wX1_218 (ci := 11) rfl (hP.r11 hd) ⟨Nat.le_of_ble_eq_true rfl, Nat.le_of_ble_eq_true rfl⟩ ⟨(by first | decide | omega | (dsimp only; omega)), (by first | decide | omega | (dsimp only; omega))⟩ rfl (Nat.le_of_ble_eq_true rfl) dX1_tradesOf_103 (fun v9 h9 n9 hq _ => ?_) (fun _ _ _ q _ => q.elim)
        obtain ⟨rfl, hq2, hq3⟩ := hq
        rw [hq2, hq3]
        refine ga_widen (k2 := 2) (n2 := 8) (by first | decide | omega | (dsimp only; omega)) (by first | decide | omega | (dsimp only; omega)) ?_
        refine gq_al (P := fun t h n => ga Γ G h n 2 8 108 [(0, .ref (L 36 d)), (1, .int f), (2, .int (cd_tr1 τ N d f (N 10 d))), (3, .ref (L 43 d)), (4, .ref t14)] (.ref t :: [])) hP hn hF hn1 (fun t103 h n hP hn hF hn1 hk ht_t103 hl_t103 ha_t103 hb_t103 he_t103 => ?_)
        refine ga_astore X [(4, .ref t103), (0, .ref (L 36 d)), (1, .int f), (2, .int (cd_tr1 τ N d f (N 10 d))), (3, .ref (L 43 d))] dX1_tradesOf_108 (by decide) rfl ?_
        have L110 : ∀ (fu k : Nat) (lr : Int32) (h : ga_H) (n : Nat) (x2 : Int32), k ≤ N 11 d → N 11 d < k + fu → x2 = (cd_tr2 τ N d f k) → gc_P G L N (τ) n0 h → n0 ≤ n → (∀ a, a < n1 → h a = h1 a) → n1 ≤ n → h t103 = some (ga_O 12 [.int (nI k), .int lr, .int (τ 1100 d), .ref (L 11 d)]) → t103 < n → ga Γ G h n 2 8 110 [(0, .ref (L 36 d)), (1, .int f), (2, .int x2), (3, .ref (L 43 d)), (4, .ref t103)] ([]) := by
          intro fu
          induction fu with
          | zero => intro k lr h n x2 hi hd; exact absurd hd (by omega)
          | succ fu ih110 =>
            intro k lr h n x2 hi110 hd110 e2 hP hn hF hn1 ht_t103 hl_t103
            rw [e2]
            refine ga_aload X 4 dX1_tradesOf_110 rfl ?_
            refine ga_callF X Y (jm_hn _ X.tr G t103 (L 11 d) (gc_e G L N 11 d) (N 11 d) k (τ 1100 d) lr _ _ ht_t103 (hP.r11 hd) (by omega) (Nat.lt_of_le_of_lt (hP.n11 d) (by decide))) wX1_222 (ci := 12) rfl ht_t103 ⟨Nat.le_of_ble_eq_true rfl, Nat.le_of_ble_eq_true rfl⟩ ⟨(by first | decide | omega | (dsimp only; omega)), (by first | decide | omega | (dsimp only; omega))⟩ rfl (Nat.le_of_ble_eq_true rfl) dX1_tradesOf_112 (fun v9 h9 n9 hq _ => ?_) (fun _ _ _ q _ => q.elim)
            obtain ⟨rfl, hq2, hq3⟩ := hq
            rw [hq2, hq3]
            show ga Γ G _ _ _ _ 117 [(0, .ref (L 36 d)), (1, .int f), (2, .int (cd_tr2 τ N d f k)), (3, .ref (L 43 d)), (4, .ref t103)] (.int (bI (k < N 11 d)) :: [])
            refine ga_ifb_eq X (tgt := 218) dX1_tradesOf_117 (by decide) (fun c_117 => ?_) (fun c_117 => ?_)
            · have hx_117 : N 11 d = k := Nat.le_antisymm (Nat.le_of_not_lt c_117) hi110
              subst hx_117
              refine ga_aload_n X 0 dX1_tradesOf_218 rfl rfl ?_
              refine ga_getN X in_X2 (ci := 1) rfl 2 (by decide) q148 rfl (hP.r36 hd) rfl dX1_tradesOf_219 ?_
              refine ga_callF X Y (jm_iter _ X.tr G (L 12 d) (gc_e G L N 12 d) (N 12 d) (τ 1200 d) _ _ (hP.r12 hd) (Nat.lt_of_lt_of_le (hP.lt (hP.l12 hd)) hn) (Nat.le_trans hP.G hn)) wX1_218 (ci := 11) rfl (hP.r12 hd) ⟨Nat.le_of_ble_eq_true rfl, Nat.le_of_ble_eq_true rfl⟩ ⟨(by first | decide | omega | (dsimp only; omega)), (by first | decide | omega | (dsimp only; omega))⟩ rfl (Nat.le_of_ble_eq_true rfl) dX1_tradesOf_222 (fun v9 h9 n9 hq _ => ?_) (fun _ _ _ q _ => q.elim)
              obtain ⟨rfl, hq2, hq3⟩ := hq
              rw [hq2, hq3]
              refine ga_widen (k2 := 3) (n2 := 12) (by first | decide | omega | (dsimp only; omega)) (by first | decide | omega | (dsimp only; omega)) ?_
              refine gq_al (P := fun t h n => ga Γ G h n 3 12 227 [(0, .ref (L 36 d)), (1, .int f), (2, .int (cd_tr2 τ N d f (N 11 d))), (3, .ref (L 43 d)), (4, .ref t103)] (.ref t :: [])) hP hn hF hn1 (fun t222 h n hP hn hF hn1 hk ht_t222 hl_t222 ha_t222 hb_t222 he_t222 => ?_)
              refine ga_astore X [(4, .ref t222), (0, .ref (L 36 d)), (1, .int f), (2, .int (cd_tr2 τ N d f (N 11 d))), (3, .ref (L 43 d))] dX1_tradesOf_227 (by decide) rfl ?_
              have L229 : ∀ (fu k : Nat) (lr : Int32) (h : ga_H) (n : Nat) (x2 : Int32), k ≤ N 12 d → N 12 d < k + fu → x2 = (cd_tr3 τ N d f k) → gc_P G L N (τ) n0 h → n0 ≤ n → (∀ a, a < n1 → h a = h1 a) → n1 ≤ n → h t222 = some (ga_O 12 [.int (nI k), .int lr, .int (τ 1200 d), .ref (L 12 d)]) → t222 < n → ga Γ G h n 3 12 229 [(0, .ref (L 36 d)), (1, .int f), (2, .int x2), (3, .ref (L 43 d)), (4, .ref t222)] ([]) := by
                intro fu
                induction fu with
                | zero => intro k lr h n x2 hi hd; exact absurd hd (by omega)
                | succ fu ih229 =>
                  intro k lr h n x2 hi229 hd229 e2 hP hn hF hn1 ht_t222 hl_t222
                  rw [e2]
                  refine ga_aload X 4 dX1_tradesOf_229 rfl ?_
                  refine ga_callF X Y (jm_hn _ X.tr G t222 (L 12 d) (gc_e G L N 12 d) (N 12 d) k (τ 1200 d) lr _ _ ht_t222 (hP.r12 hd) (by omega) (Nat.lt_of_le_of_lt (hP.n12 d) (by decide))) wX1_222 (ci := 12) rfl ht_t222 ⟨Nat.le_of_ble_eq_true rfl, Nat.le_of_ble_eq_true rfl⟩ ⟨(by first | decide | omega | (dsimp only; omega)), (by first | decide | omega | (dsimp only; omega))⟩ rfl (Nat.le_of_ble_eq_true rfl) dX1_tradesOf_231 (fun v9 h9 n9 hq _ => ?_) (fun _ _ _ q _ => q.elim)
                  obtain ⟨rfl, hq2, hq3⟩ := hq
                  rw [hq2, hq3]
                  show ga Γ G _ _ _ _ 236 [(0, .ref (L 36 d)), (1, .int f), (2, .int (cd_tr3 τ N d f k)), (3, .ref (L 43 d)), (4, .ref t222)] (.int (bI (k < N 12 d)) :: [])
                  refine ga_ifb_eq X (tgt := 333) dX1_tradesOf_236 (by decide) (fun c_236 => ?_) (fun c_236 => ?_)
                  · have hx_236 : N 12 d = k := Nat.le_antisymm (Nat.le_of_not_lt c_236) hi229
                    subst hx_236
                    refine ga_aload_n X 0 dX1_tradesOf_333 rfl rfl ?_
                    refine ga_getN X in_X2 (ci := 1) rfl 4 (by decide) q152 rfl (hP.r36 hd) rfl dX1_tradesOf_334 ?_
                    refine ga_callF X Y (jm_iter _ X.tr G (L 14 d) (gc_e G L N 14 d) (N 14 d) (τ 1400 d) _ _ (hP.r14 hd) (Nat.lt_of_lt_of_le (hP.lt (hP.l14 hd)) hn) (Nat.le_trans hP.G hn)) wX1_218 (ci := 11) rfl (hP.r14 hd) ⟨Nat.le_of_ble_eq_true rfl, Nat.le_of_ble_eq_true rfl⟩ ⟨(by first | decide | omega | (dsimp only; omega)), (by first | decide | omega | (dsimp only; omega))⟩ rfl (Nat.le_of_ble_eq_true rfl) dX1_tradesOf_337 (fun v9 h9 n9 hq _ => ?_) (fun _ _ _ q _ => q.elim)
                    obtain ⟨rfl, hq2, hq3⟩ := hq
                    rw [hq2, hq3]
                    refine ga_widen (k2 := 4) (n2 := 16) (by first | decide | omega | (dsimp only; omega)) (by first | decide | omega | (dsimp only; omega)) ?_
                    refine gq_al (P := fun t h n => ga Γ G h n 4 16 342 [(0, .ref (L 36 d)), (1, .int f), (2, .int (cd_tr3 τ N d f (N 12 d))), (3, .ref (L 43 d)), (4, .ref t222)] (.ref t :: [])) hP hn hF hn1 (fun t337 h n hP hn hF hn1 hk ht_t337 hl_t337 ha_t337 hb_t337 he_t337 => ?_)
                    refine ga_astore X [(4, .ref t337), (0, .ref (L 36 d)), (1, .int f), (2, .int (cd_tr3 τ N d f (N 12 d))), (3, .ref (L 43 d))] dX1_tradesOf_342 (by decide) rfl ?_
                    have L344 : ∀ (fu i : Nat) (lr : Int32) (h : ga_H) (n : Nat) (x2 : Int32), i ≤ N 14 d → N 14 d < i + fu → x2 = (cd_tr4 τ N d f i) → gc_P G L N (τ) n0 h → n0 ≤ n → (∀ a, a < n1 → h a = h1 a) → n1 ≤ n → h t337 = some (ga_O 12 [.int (nI i), .int lr, .int (τ 1400 d), .ref (L 14 d)]) → t337 < n → ga Γ G h n 4 16 344 [(0, .ref (L 36 d)), (1, .int f), (2, .int x2), (3, .ref (L 43 d)), (4, .ref t337)] ([]) := by
                      intro fu
                      induction fu with
                      | zero => intro i lr h n x2 hi hd; exact absurd hd (by omega)
                      | succ fu ih344 =>
                        intro i lr h n x2 hi344 hd344 e2 hP hn hF hn1 ht_t337 hl_t337
                        rw [e2]
                        refine ga_aload X 4 dX1_tradesOf_344 rfl ?_
                        refine ga_callF X Y (jm_hn _ X.tr G t337 (L 14 d) (gc_e G L N 14 d) (N 14 d) i (τ 1400 d) lr _ _ ht_t337 (hP.r14 hd) (by omega) (Nat.lt_of_le_of_lt (hP.n14 d) (by decide))) wX1_222 (ci := 12) rfl ht_t337 ⟨Nat.le_of_ble_eq_true rfl, Nat.le_of_ble_eq_true rfl⟩ ⟨(by first | decide | omega | (dsimp only; omega)), (by first | decide | omega | (dsimp only; omega))⟩ rfl (Nat.le_of_ble_eq_true rfl) dX1_tradesOf_346 (fun v9 h9 n9 hq _ => ?_) (fun _ _ _ q _ => q.elim)
                        obtain ⟨rfl, hq2, hq3⟩ := hq
                        rw [hq2, hq3]
                        show ga Γ G _ _ _ _ 351 [(0, .ref (L 36 d)), (1, .int f), (2, .int (cd_tr4 τ N d f i)), (3, .ref (L 43 d)), (4, .ref t337)] (.int (bI (i < N 14 d)) :: [])
                        refine ga_ifb_eq X (tgt := 429) dX1_tradesOf_351 (by decide) (fun c_351 => ?_) (fun c_351 => ?_)
                        · have hx_351 : N 14 d = i := Nat.le_antisymm (Nat.le_of_not_lt c_351) hi344
                          subst hx_351
                          refine ga_iload_n X 2 dX1_tradesOf_429 rfl rfl ?_
                          exact ga_iret X Y dX1_tradesOf_430 (by first | decide | omega | (dsimp only; omega)) (by first | decide | omega | (dsimp only; omega)) ⟨congrArg (fun z => some (Value.int z)) (show (cd_tr4 τ N d f (N 14 d)) = cd_tradesOf τ N d f from by unfold cd_tradesOf; exact (rfl).symm), hn1, hF⟩
                        · have hx_351 : i < N 14 d := c_351
                          refine ga_aload X 4 dX1_tradesOf_354 rfl ?_
                          have hj_1 : i < N 14 d := by omega
                          obtain ⟨f_1, hE_1, hk_1, hb_1, hf_1, he_1⟩ := hP.r24 hd (by omega)
                          have hx_1 := hP.lt (hP.l14 hd)
                          have hy_1 := hP.lt (hP.l24 hd (by omega))
                          rw [← he_1] at hy_1
                          refine ga_callF X Y (jm_next _ X.tr G t337 (L 14 d) (gc_e G L N 14 d) (N 14 d) (N 24 d) i _ (τ 1400 d) lr f_1 _ _ ht_t337 (Nat.le_trans hP.G hb_t337) (hP.r14 hd) hE_1 hj_1 hk_1 (by omega) (hf_1 i hj_1) (by omega) (by omega)) wX1_228 (ci := 12) rfl ht_t337 ⟨Nat.le_of_ble_eq_true rfl, Nat.le_of_ble_eq_true rfl⟩ ⟨(by first | decide | omega | (dsimp only; omega)), (by first | decide | omega | (dsimp only; omega))⟩ rfl (Nat.le_of_ble_eq_true rfl) dX1_tradesOf_356 (fun v9 h9 n9 hq _ => ?_) (fun _ _ _ q _ => q.elim)
                          obtain ⟨rfl, hq2, hq3⟩ := hq
                          rw [hq2, hq3]
                          show ga Γ G _ _ _ _ 361 [(0, .ref (L 36 d)), (1, .int f), (2, .int (cd_tr4 τ N d f i)), (3, .ref (L 43 d)), (4, .ref t337)] (.ref (L 34 (1024 * d + i)) :: [])
                          refine gq_up (P := fun h => ga Γ G h n 4 16 361 [(0, .ref (L 36 d)), (1, .int f), (2, .int (cd_tr4 τ N d f i)), (3, .ref (L 43 d)), (4, .ref t337)] (.ref (L 34 (1024 * d + i)) :: [])) hP hF hb_t337 ha_t337 (fun h hP hF ht_t337 hk => ?_)
                          refine ga_cast X (ci := 9) rfl q1201 (hP.r34 hd hj_1).1 dX1_tradesOf_361 ?_
                          refine ga_astore X [(5, .ref (L 34 (1024 * d + i))), (0, .ref (L 36 d)), (1, .int f), (2, .int (cd_tr4 τ N d f i)), (3, .ref (L 43 d)), (4, .ref t337)] dX1_tradesOf_364 (by decide) rfl ?_
                          refine ga_iload_n X 3 dX1_tradesOf_366 rfl rfl ?_
                          refine ga_aload X 0 dX1_tradesOf_367 rfl ?_
                          refine ga_getN X in_X12 (ci := 9) rfl 0 (by decide) q1209 rfl (hP.r34 hd hj_1).1 rfl dX1_tradesOf_369 ?_
                          refine ga_getN X in_X10 (ci := 8) rfl 0 (by decide) q1143 rfl (hP.r33 hd (hP.r34 hd hj_1).2.1) rfl dX1_tradesOf_372 ?_
                          refine ga_iload_n X 2 dX1_tradesOf_375 rfl rfl ?_
                          have J394 : ∀ (v394 : Int32), v394 = (if (τ 3300 (1024 * d + (N 64 (1024 * d + i)))) = f then (τ 3403 (1024 * d + i)) * (τ 3402 (1024 * d + i)) else 0) → ga Γ G h n 4 16 394 [(5, .ref (L 34 (1024 * d + i))), (0, .ref (L 36 d)), (1, .int f), (2, .int (cd_tr4 τ N d f i)), (3, .ref (L 43 d)), (4, .ref t337)] (.int v394 :: .int (cd_tr4 τ N d f i) :: []) := by
                            intro v394 ev394
                            subst ev394
                            refine ga_isub X dX1_tradesOf_394 ?_
                            refine ga_istore_n X [(2, .int ((cd_tr4 τ N d f i) - (if (τ 3300 (1024 * d + (N 64 (1024 * d + i)))) = f then (τ 3403 (1024 * d + i)) * (τ 3402 (1024 * d + i)) else 0))), (5, .ref (L 34 (1024 * d + i))), (0, .ref (L 36 d)), (1, .int f), (3, .ref (L 43 d)), (4, .ref t337)] dX1_tradesOf_395 rfl (by decide) rfl ?_
                            refine ga_iload_n X 0 dX1_tradesOf_396 rfl rfl ?_
                            refine ga_aload X 1 dX1_tradesOf_397 rfl ?_
                            refine ga_getN X in_X12 (ci := 9) rfl 1 (by decide) q1212 rfl (hP.r34 hd hj_1).1 rfl dX1_tradesOf_399 ?_
                            refine ga_getN X in_X10 (ci := 8) rfl 0 (by decide) q1143 rfl (hP.r33 hd (hP.r34 hd hj_1).2.2) rfl dX1_tradesOf_402 ?_
                            refine ga_iload_n X 3 dX1_tradesOf_405 rfl rfl ?_
                            have J424 : ∀ (v424 : Int32), v424 = (if (τ 3300 (1024 * d + (N 65 (1024 * d + i)))) = f then (τ 3403 (1024 * d + i)) * (τ 3402 (1024 * d + i)) else 0) → ga Γ G h n 4 16 424 [(2, .int ((cd_tr4 τ N d f i) - (if (τ 3300 (1024 * d + (N 64 (1024 * d + i)))) = f then (τ 3403 (1024 * d + i)) * (τ 3402 (1024 * d + i)) else 0))), (5, .ref (L 34 (1024 * d + i))), (0, .ref (L 36 d)), (1, .int f), (3, .ref (L 43 d)), (4, .ref t337)] (.int v424 :: .int ((cd_tr4 τ N d f i) - (if (τ 3300 (1024 * d + (N 64 (1024 * d + i)))) = f then (τ 3403 (1024 * d + i)) * (τ 3402 (1024 * d + i)) else 0)) :: []) := by
                              intro v424 ev424
                              subst ev424
                              refine ga_iadd X dX1_tradesOf_424 ?_
                              refine ga_istore_n X [(2, .int (((cd_tr4 τ N d f i) - (if (τ 3300 (1024 * d + (N 64 (1024 * d + i)))) = f then (τ 3403 (1024 * d + i)) * (τ 3402 (1024 * d + i)) else 0)) + (if (τ 3300 (1024 * d + (N 65 (1024 * d + i)))) = f then (τ 3403 (1024 * d + i)) * (τ 3402 (1024 * d + i)) else 0))), (5, .ref (L 34 (1024 * d + i))), (0, .ref (L 36 d)), (1, .int f), (3, .ref (L 43 d)), (4, .ref t337)] dX1_tradesOf_425 rfl (by decide) rfl ?_
                              refine ga_goto X (tgt := 344) dX1_tradesOf_426 (by decide) ?_
                              refine ga_sub [2, 3, 0, 4, 5] rfl ?_
                              exact ih344 (i + 1) _ h n _ (by omega) (by omega) ((cd_tr4_s τ N d f i).symm) hP hn hF hn1 ht_t337 hl_t337
                            refine ga_icmp_ne X (tgt := 423) dX1_tradesOf_406 (by decide) (fun c_406 => ?_) (fun c_406 => ?_)
                            · refine ga_iconst X (v := 0) dX1_tradesOf_423 (by decide) ?_
                              exact J424 _ ((if_neg c_406).symm)
                            · refine ga_aload X 1 dX1_tradesOf_409 rfl ?_
                              refine ga_getN X in_X12 (ci := 9) rfl 3 (by decide) q1217 rfl (hP.r34 hd hj_1).1 rfl dX1_tradesOf_411 ?_
                              refine ga_aload X 1 dX1_tradesOf_414 rfl ?_
                              refine ga_getN X in_X12 (ci := 9) rfl 2 (by decide) q1214 rfl (hP.r34 hd hj_1).1 rfl dX1_tradesOf_416 ?_
                              refine ga_imul X dX1_tradesOf_419 ?_
                              refine ga_goto X (tgt := 424) dX1_tradesOf_420 (by decide) ?_
                              exact J424 _ ((if_pos c_406).symm)
                          refine ga_icmp_ne X (tgt := 393) dX1_tradesOf_376 (by decide) (fun c_376 => ?_) (fun c_376 => ?_)
                          · refine ga_iconst X (v := 0) dX1_tradesOf_393 (by decide) ?_
                            exact J394 _ ((if_neg c_376).symm)
                          · refine ga_aload X 0 dX1_tradesOf_379 rfl ?_
                            refine ga_getN X in_X12 (ci := 9) rfl 3 (by decide) q1217 rfl (hP.r34 hd hj_1).1 rfl dX1_tradesOf_381 ?_
                            refine ga_aload X 0 dX1_tradesOf_384 rfl ?_
                            refine ga_getN X in_X12 (ci := 9) rfl 2 (by decide) q1214 rfl (hP.r34 hd hj_1).1 rfl dX1_tradesOf_386 ?_
                            refine ga_imul X dX1_tradesOf_389 ?_
                            refine ga_goto X (tgt := 394) dX1_tradesOf_390 (by decide) ?_
                            exact J394 _ ((if_pos c_376).symm)
                    refine ga_sub [1, 2, 3, 4, 0] rfl ?_
                    exact L344 (N 14 d + 1) 0 _ h n _ (by omega) (by omega) rfl hP hn hF hn1 ht_t337 hl_t337
                  · have hx_236 : k < N 12 d := c_236
                    refine ga_aload X 4 dX1_tradesOf_239 rfl ?_
                    have hj_2 : k < N 12 d := by omega
                    obtain ⟨f_2, hE_2, hk_2, hb_2, hf_2, he_2⟩ := hP.r22 hd (by omega)
                    have hx_2 := hP.lt (hP.l12 hd)
                    have hy_2 := hP.lt (hP.l22 hd (by omega))
                    rw [← he_2] at hy_2
                    refine ga_callF X Y (jm_next _ X.tr G t222 (L 12 d) (gc_e G L N 12 d) (N 12 d) (N 22 d) k _ (τ 1200 d) lr f_2 _ _ ht_t222 (Nat.le_trans hP.G hb_t222) (hP.r12 hd) hE_2 hj_2 hk_2 (by omega) (hf_2 k hj_2) (by omega) (by omega)) wX1_228 (ci := 12) rfl ht_t222 ⟨Nat.le_of_ble_eq_true rfl, Nat.le_of_ble_eq_true rfl⟩ ⟨(by first | decide | omega | (dsimp only; omega)), (by first | decide | omega | (dsimp only; omega))⟩ rfl (Nat.le_of_ble_eq_true rfl) dX1_tradesOf_241 (fun v9 h9 n9 hq _ => ?_) (fun _ _ _ q _ => q.elim)
                    obtain ⟨rfl, hq2, hq3⟩ := hq
                    rw [hq2, hq3]
                    show ga Γ G _ _ _ _ 246 [(0, .ref (L 36 d)), (1, .int f), (2, .int (cd_tr3 τ N d f k)), (3, .ref (L 43 d)), (4, .ref t222)] (.ref (L 32 (1024 * d + k)) :: [])
                    refine gq_up (P := fun h => ga Γ G h n 3 12 246 [(0, .ref (L 36 d)), (1, .int f), (2, .int (cd_tr3 τ N d f k)), (3, .ref (L 43 d)), (4, .ref t222)] (.ref (L 32 (1024 * d + k)) :: [])) hP hF hb_t222 ha_t222 (fun h hP hF ht_t222 hk => ?_)
                    refine ga_cast X (ci := 5) rfl q602 (hP.r32 hd hj_2) dX1_tradesOf_246 ?_
                    refine ga_astore X [(5, .ref (L 32 (1024 * d + k))), (0, .ref (L 36 d)), (1, .int f), (2, .int (cd_tr3 τ N d f k)), (3, .ref (L 43 d)), (4, .ref t222)] dX1_tradesOf_249 (by decide) rfl ?_
                    refine ga_iconst X (v := 0) dX1_tradesOf_251 (by decide) ?_
                    refine ga_istore X [(6, .int 0), (5, .ref (L 32 (1024 * d + k))), (0, .ref (L 36 d)), (1, .int f), (2, .int (cd_tr3 τ N d f k)), (3, .ref (L 43 d)), (4, .ref t222)] dX1_tradesOf_252 (by decide) rfl ?_
                    by_cases cf_254 : τ 3200 (1024 * d + k) = f
                    · have L254 : ∀ (fu i : Nat) (h : ga_H) (n : Nat) (x2 : Int32) (x6 : Int32), i ≤ 4 → 4 < i + fu → x2 = (cd_tr3i τ N d f k (cd_tr3 τ N d f k) i) → x6 = (nI i) → gc_P G L N (τ) n0 h → n0 ≤ n → (∀ a, a < n1 → h a = h1 a) → n1 ≤ n → h t222 = some (ga_O 12 [.int (nI (k + 1)), .int (nI k), .int (τ 1200 d), .ref (L 12 d)]) → t222 < n → ga Γ G h n 3 12 254 [(0, .ref (L 36 d)), (1, .int f), (2, .int x2), (3, .ref (L 43 d)), (4, .ref t222), (5, .ref (L 32 (1024 * d + k))), (6, .int x6)] ([]) := by
                        intro fu
                        induction fu with
                        | zero => intro i h n x2 x6 hi hd; exact absurd hd (by omega)
                        | succ fu ih254 =>
                          intro i h n x2 x6 hi254 hd254 e2 e6 hP hn hF hn1 ht_t222 hl_t222
                          rw [e2]
                          rw [e6]
                          refine ga_iload X 6 dX1_tradesOf_254 rfl ?_
                          refine ga_iconst X (v := 4) dX1_tradesOf_256 (by decide) ?_
                          refine ga_icmp_ge X (tgt := 309) dX1_tradesOf_257 (by decide) (fun c_257 => ?_) (fun c_257 => ?_)
                          · have hx_257 : 4 = i := Nat.le_antisymm ((nI_leI (a := 4) (by omega) (by omega)).mp c_257) hi254
                            subst hx_257
                            refine ga_lv (lv' := [(0, .ref (L 36 d)), (1, .int f), (2, .int (if τ 3200 (1024 * d + k) = f then (cd_tr3i τ N d f k (cd_tr3 τ N d f k) 4) else cd_tr3 τ N d f k)), (3, .ref (L 43 d)), (4, .ref t222), (5, .ref (L 32 (1024 * d + k))), (6, .int (nI 4))]) (by rw [if_pos cf_254]) ?_
                            refine ga_iload_n X 2 dX1_tradesOf_309 rfl rfl ?_
                            refine ga_aload X 5 dX1_tradesOf_310 rfl ?_
                            refine ga_getN X in_X6 (ci := 5) rfl 0 (by decide) q609 rfl (hP.r32 hd hj_2) rfl dX1_tradesOf_312 ?_
                            refine ga_iload_n X 1 dX1_tradesOf_315 rfl rfl ?_
                            have J328 : ∀ (v328 : Int32), v328 = (if (τ 3200 (1024 * d + k)) = f then τ 3206 (1024 * d + k) else 0) → ga Γ G h n 3 12 328 [(0, .ref (L 36 d)), (1, .int f), (2, .int (if τ 3200 (1024 * d + k) = f then (cd_tr3i τ N d f k (cd_tr3 τ N d f k) 4) else cd_tr3 τ N d f k)), (3, .ref (L 43 d)), (4, .ref t222), (5, .ref (L 32 (1024 * d + k))), (6, .int (nI 4))] (.int v328 :: .int (if τ 3200 (1024 * d + k) = f then (cd_tr3i τ N d f k (cd_tr3 τ N d f k) 4) else cd_tr3 τ N d f k) :: []) := by
                              intro v328 ev328
                              subst ev328
                              refine ga_isub X dX1_tradesOf_328 ?_
                              refine ga_istore_n X [(2, .int ((if τ 3200 (1024 * d + k) = f then (cd_tr3i τ N d f k (cd_tr3 τ N d f k) 4) else cd_tr3 τ N d f k) - (if (τ 3200 (1024 * d + k)) = f then τ 3206 (1024 * d + k) else 0))), (0, .ref (L 36 d)), (1, .int f), (3, .ref (L 43 d)), (4, .ref t222), (5, .ref (L 32 (1024 * d + k))), (6, .int (nI 4))] dX1_tradesOf_329 rfl (by decide) rfl ?_
                              refine ga_goto X (tgt := 229) dX1_tradesOf_330 (by decide) ?_
                              refine ga_sub [1, 2, 0, 3, 4] rfl ?_
                              exact ih229 (k + 1) _ h n _ (by omega) (by omega) ((cd_tr3_s τ N d f k).symm) hP hn hF hn1 ht_t222 hl_t222
                            refine ga_icmp_ne X (tgt := 327) dX1_tradesOf_316 (by decide) (fun c_316 => ?_) (fun c_316 => ?_)
                            · refine ga_iconst X (v := 0) dX1_tradesOf_327 (by decide) ?_
                              exact J328 _ ((if_neg c_316).symm)
                            · refine ga_aload X 5 dX1_tradesOf_319 rfl ?_
                              refine ga_getN X in_X6 (ci := 5) rfl 6 (by decide) q619 rfl (hP.r32 hd hj_2) rfl dX1_tradesOf_321 ?_
                              refine ga_goto X (tgt := 328) dX1_tradesOf_324 (by decide) ?_
                              exact J328 _ ((if_pos c_316).symm)
                          · have hx_257 : i < 4 := Nat.lt_of_not_le fun z => c_257 ((nI_leI (a := 4) (by omega) (by omega)).mpr z)
                            refine ga_aload X 5 dX1_tradesOf_260 rfl ?_
                            refine ga_getN X in_X6 (ci := 5) rfl 0 (by decide) q609 rfl (hP.r32 hd hj_2) rfl dX1_tradesOf_262 ?_
                            refine ga_iload_n X 1 dX1_tradesOf_265 rfl rfl ?_
                            refine ga_icmp_ne X (tgt := 309) dX1_tradesOf_266 (by decide) (fun c_266 => ?_) (fun c_266 => ?_)
                            · first | exact absurd cf_254 c_266 | exact absurd c_266 cf_254
                            · refine ga_iload_n X 2 dX1_tradesOf_269 rfl rfl ?_
                              refine ga_aload X 5 dX1_tradesOf_270 rfl ?_
                              refine ga_getN X in_X6 (ci := 5) rfl 5 (by decide) q618 rfl (hP.r32 hd hj_2) rfl dX1_tradesOf_272 ?_
                              refine ga_iconst X (v := 0) dX1_tradesOf_275 (by decide) ?_
                              refine ga_aload_n X 3 dX1_tradesOf_276 rfl rfl ?_
                              refine ga_iload X 6 dX1_tradesOf_277 rfl ?_
                              obtain ⟨f_3, hf_3, hv_3⟩ := hP.r43 hd hr
                              refine ga_aald X (k := 6) i rfl (by omega) (by decide) rfl rfl hf_3 dX1_tradesOf_279 (show va_rf (f_3 i) = .ref (L 44 (4 * d + i)) by rw [hv_3 i (by omega)]; rfl) ?_
                              refine ga_aload X 5 dX1_tradesOf_280 rfl ?_
                              refine ga_getN X in_X6 (ci := 5) rfl 2 (by decide) q613 rfl (hP.r32 hd hj_2) rfl dX1_tradesOf_282 ?_
                              have rg_4 := hV.r3202 hd hj_2
                              have rl_4 := cx_lt rg_4 (m := 3) (by decide) (by decide)
                              obtain ⟨f_5, hf_5, hv_5⟩ := hP.r44 hd hr (by omega)
                              refine ga_iald X (cx (τ 3202 (1024 * d + k))) (cx_e rg_4) (by omega) (by decide) hf_5 dX1_tradesOf_285 ?_
                              refine ga_st (st' := .int (τ 4400 (3 * (4 * d + i) + (cx (τ 3202 (1024 * d + k))))) :: .int 0 :: .int (τ 3205 (1024 * d + k)) :: .int (cd_tr3i τ N d f k (cd_tr3 τ N d f k) i) :: []) (by rw [hv_5 (cx (τ 3202 (1024 * d + k))) (by omega)]) ?_
                              have rg_6 := hV.r3202 hd hj_2
                              have rl_6 := cx_lt rg_6 (m := 3) (by decide) (by decide)
                              refine ga_aload_n X 3 dX1_tradesOf_286 rfl rfl ?_
                              refine ga_iload X 6 dX1_tradesOf_287 rfl ?_
                              obtain ⟨f_7, hf_7, hv_7⟩ := hP.r43 hd hr
                              refine ga_aald X (k := 6) i rfl (by omega) (by decide) rfl rfl hf_7 dX1_tradesOf_289 (show va_rf (f_7 i) = .ref (L 44 (4 * d + i)) by rw [hv_7 i (by omega)]; rfl) ?_
                              refine ga_aload X 5 dX1_tradesOf_290 rfl ?_
                              refine ga_getN X in_X6 (ci := 5) rfl 1 (by decide) q611 rfl (hP.r32 hd hj_2) rfl dX1_tradesOf_292 ?_
                              have rg_8 := hV.r3201 hd hj_2
                              have rl_8 := cx_lt rg_8 (m := 3) (by decide) (by decide)
                              obtain ⟨f_9, hf_9, hv_9⟩ := hP.r44 hd hr (by omega)
                              refine ga_iald X (cx (τ 3201 (1024 * d + k))) (cx_e rg_8) (by omega) (by decide) hf_9 dX1_tradesOf_295 ?_
                              refine ga_st (st' := .int (τ 4400 (3 * (4 * d + i) + (cx (τ 3201 (1024 * d + k))))) :: .int (τ 4400 (3 * (4 * d + i) + (cx (τ 3202 (1024 * d + k))))) :: .int 0 :: .int (τ 3205 (1024 * d + k)) :: .int (cd_tr3i τ N d f k (cd_tr3 τ N d f k) i) :: []) (by rw [hv_9 (cx (τ 3201 (1024 * d + k))) (by omega)]) ?_
                              have rg_10 := hV.r3201 hd hj_2
                              have rl_10 := cx_lt rg_10 (m := 3) (by decide) (by decide)
                              refine ga_isub X dX1_tradesOf_296 ?_
                              refine ga_mmax X Y q1081 q469 q71 q470 (by first | decide | omega | (dsimp only; omega)) (by first | decide | omega | (dsimp only; omega)) (by first | decide | omega | (dsimp only; omega)) (by first | decide | omega | (dsimp only; omega)) (Nat.le_of_ble_eq_true rfl) dX1_tradesOf_297 ?_
                              refine ga_imul X dX1_tradesOf_300 ?_
                              refine ga_iadd X dX1_tradesOf_301 ?_
                              refine ga_istore_n X [(2, .int ((cd_tr3i τ N d f k (cd_tr3 τ N d f k) i) + ((τ 3205 (1024 * d + k)) * (if 0 < ((τ 4400 (3 * (4 * d + i) + (cx (τ 3202 (1024 * d + k))))) - (τ 4400 (3 * (4 * d + i) + (cx (τ 3201 (1024 * d + k)))))) then ((τ 4400 (3 * (4 * d + i) + (cx (τ 3202 (1024 * d + k))))) - (τ 4400 (3 * (4 * d + i) + (cx (τ 3201 (1024 * d + k)))))) else 0)))), (0, .ref (L 36 d)), (1, .int f), (3, .ref (L 43 d)), (4, .ref t222), (5, .ref (L 32 (1024 * d + k))), (6, .int (nI i))] dX1_tradesOf_302 rfl (by decide) rfl ?_
                              refine ga_iinc X 6 [(6, .int (nI (i + 1))), (2, .int ((cd_tr3i τ N d f k (cd_tr3 τ N d f k) i) + ((τ 3205 (1024 * d + k)) * (if 0 < ((τ 4400 (3 * (4 * d + i) + (cx (τ 3202 (1024 * d + k))))) - (τ 4400 (3 * (4 * d + i) + (cx (τ 3201 (1024 * d + k)))))) then ((τ 4400 (3 * (4 * d + i) + (cx (τ 3202 (1024 * d + k))))) - (τ 4400 (3 * (4 * d + i) + (cx (τ 3201 (1024 * d + k)))))) else 0)))), (0, .ref (L 36 d)), (1, .int f), (3, .ref (L 43 d)), (4, .ref t222), (5, .ref (L 32 (1024 * d + k)))] dX1_tradesOf_303 rfl (nI_1 i) (by decide) rfl ?_
                              refine ga_goto X (tgt := 254) dX1_tradesOf_306 (by decide) ?_
                              refine ga_sub [2, 3, 1, 4, 5, 6, 0] rfl ?_
                              exact ih254 (i + 1) h n _ _ (by omega) (by omega) ((cd_tr3i_s τ N d f k (cd_tr3 τ N d f k) i).symm) rfl hP hn hF hn1 ht_t222 hl_t222
                      refine ga_sub [2, 3, 4, 5, 6, 1, 0] rfl ?_
                      exact L254 (4 + 1) 0 h n _ _ (by omega) (by omega) rfl rfl hP hn hF hn1 ht_t222 hl_t222
                    · refine ga_lv (lv' := [(6, .int 0), (5, .ref (L 32 (1024 * d + k))), (0, .ref (L 36 d)), (1, .int f), (2, .int (if τ 3200 (1024 * d + k) = f then (cd_tr3i τ N d f k (cd_tr3 τ N d f k) 4) else cd_tr3 τ N d f k)), (3, .ref (L 43 d)), (4, .ref t222)]) (by rw [if_neg cf_254]) ?_
                      refine ga_iload X 0 dX1_tradesOf_254 rfl ?_
                      refine ga_iconst X (v := 4) dX1_tradesOf_256 (by decide) ?_
                      refine ga_icmp_ge X (tgt := 309) dX1_tradesOf_257 (by decide) (fun c_257 => ?_) (fun c_257 => ?_)
                      · exact absurd c_257 (by decide)
                      · refine ga_aload X 1 dX1_tradesOf_260 rfl ?_
                        refine ga_getN X in_X6 (ci := 5) rfl 0 (by decide) q609 rfl (hP.r32 hd hj_2) rfl dX1_tradesOf_262 ?_
                        refine ga_iload_n X 3 dX1_tradesOf_265 rfl rfl ?_
                        refine ga_icmp_ne X (tgt := 309) dX1_tradesOf_266 (by decide) (fun c_266 => ?_) (fun c_266 => ?_)
                        · refine ga_iload_n X 4 dX1_tradesOf_309 rfl rfl ?_
                          refine ga_aload X 1 dX1_tradesOf_310 rfl ?_
                          refine ga_getN X in_X6 (ci := 5) rfl 0 (by decide) q609 rfl (hP.r32 hd hj_2) rfl dX1_tradesOf_312 ?_
                          refine ga_iload_n X 3 dX1_tradesOf_315 rfl rfl ?_
                          have J328 : ∀ (v328 : Int32), v328 = (if (τ 3200 (1024 * d + k)) = f then τ 3206 (1024 * d + k) else 0) → ga Γ G h n 3 12 328 [(6, .int 0), (5, .ref (L 32 (1024 * d + k))), (0, .ref (L 36 d)), (1, .int f), (2, .int (if τ 3200 (1024 * d + k) = f then (cd_tr3i τ N d f k (cd_tr3 τ N d f k) 4) else cd_tr3 τ N d f k)), (3, .ref (L 43 d)), (4, .ref t222)] (.int v328 :: .int (if τ 3200 (1024 * d + k) = f then (cd_tr3i τ N d f k (cd_tr3 τ N d f k) 4) else cd_tr3 τ N d f k) :: []) := by
                            intro v328 ev328
                            subst ev328
                            refine ga_isub X dX1_tradesOf_328 ?_
                            refine ga_istore_n X [(2, .int ((if τ 3200 (1024 * d + k) = f then (cd_tr3i τ N d f k (cd_tr3 τ N d f k) 4) else cd_tr3 τ N d f k) - (if (τ 3200 (1024 * d + k)) = f then τ 3206 (1024 * d + k) else 0))), (6, .int 0), (5, .ref (L 32 (1024 * d + k))), (0, .ref (L 36 d)), (1, .int f), (3, .ref (L 43 d)), (4, .ref t222)] dX1_tradesOf_329 rfl (by decide) rfl ?_
                            refine ga_goto X (tgt := 229) dX1_tradesOf_330 (by decide) ?_
                            refine ga_sub [3, 4, 0, 5, 6] rfl ?_
                            exact ih229 (k + 1) _ h n _ (by omega) (by omega) ((cd_tr3_s τ N d f k).symm) hP hn hF hn1 ht_t222 hl_t222
                          refine ga_icmp_ne X (tgt := 327) dX1_tradesOf_316 (by decide) (fun c_316 => ?_) (fun c_316 => ?_)
                          · refine ga_iconst X (v := 0) dX1_tradesOf_327 (by decide) ?_
                            exact J328 _ ((if_neg c_316).symm)
                          · refine ga_aload X 1 dX1_tradesOf_319 rfl ?_
                            refine ga_getN X in_X6 (ci := 5) rfl 6 (by decide) q619 rfl (hP.r32 hd hj_2) rfl dX1_tradesOf_321 ?_
                            refine ga_goto X (tgt := 328) dX1_tradesOf_324 (by decide) ?_
                            exact J328 _ ((if_pos c_316).symm)
                        · first | exact absurd cf_254 c_266 | exact absurd c_266 cf_254
              refine ga_sub [1, 2, 3, 4, 0] rfl ?_
              exact L229 (N 12 d + 1) 0 _ h n _ (by omega) (by omega) rfl hP hn hF hn1 ht_t222 hl_t222
            · have hx_117 : k < N 11 d := c_117
              refine ga_aload X 4 dX1_tradesOf_120 rfl ?_
              have hj_11 : k < N 11 d := by omega
              obtain ⟨f_11, hE_11, hk_11, hb_11, hf_11, he_11⟩ := hP.r21 hd (by omega)
              have hx_11 := hP.lt (hP.l11 hd)
              have hy_11 := hP.lt (hP.l21 hd (by omega))
              rw [← he_11] at hy_11
              refine ga_callF X Y (jm_next _ X.tr G t103 (L 11 d) (gc_e G L N 11 d) (N 11 d) (N 21 d) k _ (τ 1100 d) lr f_11 _ _ ht_t103 (Nat.le_trans hP.G hb_t103) (hP.r11 hd) hE_11 hj_11 hk_11 (by omega) (hf_11 k hj_11) (by omega) (by omega)) wX1_228 (ci := 12) rfl ht_t103 ⟨Nat.le_of_ble_eq_true rfl, Nat.le_of_ble_eq_true rfl⟩ ⟨(by first | decide | omega | (dsimp only; omega)), (by first | decide | omega | (dsimp only; omega))⟩ rfl (Nat.le_of_ble_eq_true rfl) dX1_tradesOf_122 (fun v9 h9 n9 hq _ => ?_) (fun _ _ _ q _ => q.elim)
              obtain ⟨rfl, hq2, hq3⟩ := hq
              rw [hq2, hq3]
              show ga Γ G _ _ _ _ 127 [(0, .ref (L 36 d)), (1, .int f), (2, .int (cd_tr2 τ N d f k)), (3, .ref (L 43 d)), (4, .ref t103)] (.ref (L 31 (1024 * d + k)) :: [])
              refine gq_up (P := fun h => ga Γ G h n 2 8 127 [(0, .ref (L 36 d)), (1, .int f), (2, .int (cd_tr2 τ N d f k)), (3, .ref (L 43 d)), (4, .ref t103)] (.ref (L 31 (1024 * d + k)) :: [])) hP hF hb_t103 ha_t103 (fun h hP hF ht_t103 hk => ?_)
              refine ga_cast X (ci := 4) rfl q524 (hP.r31 hd hj_11).1 dX1_tradesOf_127 ?_
              refine ga_astore X [(5, .ref (L 31 (1024 * d + k))), (0, .ref (L 36 d)), (1, .int f), (2, .int (cd_tr2 τ N d f k)), (3, .ref (L 43 d)), (4, .ref t103)] dX1_tradesOf_130 (by decide) rfl ?_
              refine ga_iconst X (v := 0) dX1_tradesOf_132 (by decide) ?_
              refine ga_istore X [(6, .int 0), (5, .ref (L 31 (1024 * d + k))), (0, .ref (L 36 d)), (1, .int f), (2, .int (cd_tr2 τ N d f k)), (3, .ref (L 43 d)), (4, .ref t103)] dX1_tradesOf_133 (by decide) rfl ?_
              have L135 : ∀ (fu i : Nat) (h : ga_H) (n : Nat) (x2 : Int32) (x6 : Int32), i ≤ 4 → 4 < i + fu → x2 = (cd_tr2i τ N d f k (cd_tr2 τ N d f k) i) → x6 = (nI i) → gc_P G L N (τ) n0 h → n0 ≤ n → (∀ a, a < n1 → h a = h1 a) → n1 ≤ n → h t103 = some (ga_O 12 [.int (nI (k + 1)), .int (nI k), .int (τ 1100 d), .ref (L 11 d)]) → t103 < n → ga Γ G h n 2 8 135 [(0, .ref (L 36 d)), (1, .int f), (2, .int x2), (3, .ref (L 43 d)), (4, .ref t103), (5, .ref (L 31 (1024 * d + k))), (6, .int x6)] ([]) := by
                intro fu
                induction fu with
                | zero => intro i h n x2 x6 hi hd; exact absurd hd (by omega)
                | succ fu ih135 =>
                  intro i h n x2 x6 hi135 hd135 e2 e6 hP hn hF hn1 ht_t103 hl_t103
                  rw [e2]
                  rw [e6]
                  refine ga_iload X 6 dX1_tradesOf_135 rfl ?_
                  refine ga_iconst X (v := 4) dX1_tradesOf_137 (by decide) ?_
                  refine ga_icmp_ge X (tgt := 215) dX1_tradesOf_138 (by decide) (fun c_138 => ?_) (fun c_138 => ?_)
                  · have hx_138 : 4 = i := Nat.le_antisymm ((nI_leI (a := 4) (by omega) (by omega)).mp c_138) hi135
                    subst hx_138
                    refine ga_goto X (tgt := 110) dX1_tradesOf_215 (by decide) ?_
                    refine ga_sub [0, 1, 2, 3, 4] rfl ?_
                    exact ih110 (k + 1) _ h n _ (by omega) (by omega) ((cd_tr2_s τ N d f k).symm) hP hn hF hn1 ht_t103 hl_t103
                  · have hx_138 : i < 4 := Nat.lt_of_not_le fun z => c_138 ((nI_leI (a := 4) (by omega) (by omega)).mpr z)
                    refine ga_aload X 5 dX1_tradesOf_141 rfl ?_
                    refine ga_getN X in_X5 (ci := 4) rfl 0 (by decide) q532 rfl (hP.r31 hd hj_11).1 rfl dX1_tradesOf_143 ?_
                    refine ga_iload_n X 1 dX1_tradesOf_146 rfl rfl ?_
                    have J188 : ∀ (v188 : Int32), v188 = (if (τ 3100 (1024 * d + k)) = f then if (τ 3108 (1024 * d + k)) = 0 then 0 else if (cd_isIn τ d k (nI i)) = 0 then 0 else (τ 3105 (1024 * d + k)) * (τ 4400 (3 * (4 * d + i) + (cx (τ 3101 (1024 * d + k))))) else 0) → ga Γ G h n 2 8 188 [(0, .ref (L 36 d)), (1, .int f), (2, .int (cd_tr2i τ N d f k (cd_tr2 τ N d f k) i)), (3, .ref (L 43 d)), (4, .ref t103), (5, .ref (L 31 (1024 * d + k))), (6, .int (nI i))] (.int v188 :: []) := by
                      intro v188 ev188
                      subst ev188
                      refine ga_istore X [(7, .int (if (τ 3100 (1024 * d + k)) = f then if (τ 3108 (1024 * d + k)) = 0 then 0 else if (cd_isIn τ d k (nI i)) = 0 then 0 else (τ 3105 (1024 * d + k)) * (τ 4400 (3 * (4 * d + i) + (cx (τ 3101 (1024 * d + k))))) else 0)), (0, .ref (L 36 d)), (1, .int f), (2, .int (cd_tr2i τ N d f k (cd_tr2 τ N d f k) i)), (3, .ref (L 43 d)), (4, .ref t103), (5, .ref (L 31 (1024 * d + k))), (6, .int (nI i))] dX1_tradesOf_188 (by decide) rfl ?_
                      refine ga_iload_n X 3 dX1_tradesOf_190 rfl rfl ?_
                      refine ga_aload X 6 dX1_tradesOf_191 rfl ?_
                      refine ga_getN X in_X5 (ci := 4) rfl 3 (by decide) q539 rfl (hP.r31 hd hj_11).1 rfl dX1_tradesOf_193 ?_
                      have J207 : ∀ (v207 : Int32), v207 = (if (τ 3103 (1024 * d + k)) = 0 then if (τ 3100 (1024 * d + k)) = f then if (τ 3108 (1024 * d + k)) = 0 then 0 else if (cd_isIn τ d k (nI i)) = 0 then 0 else (τ 3105 (1024 * d + k)) * (τ 4400 (3 * (4 * d + i) + (cx (τ 3101 (1024 * d + k))))) else 0 else -(if (τ 3100 (1024 * d + k)) = f then if (τ 3108 (1024 * d + k)) = 0 then 0 else if (cd_isIn τ d k (nI i)) = 0 then 0 else (τ 3105 (1024 * d + k)) * (τ 4400 (3 * (4 * d + i) + (cx (τ 3101 (1024 * d + k))))) else 0)) → ga Γ G h n 2 8 207 [(7, .int (if (τ 3100 (1024 * d + k)) = f then if (τ 3108 (1024 * d + k)) = 0 then 0 else if (cd_isIn τ d k (nI i)) = 0 then 0 else (τ 3105 (1024 * d + k)) * (τ 4400 (3 * (4 * d + i) + (cx (τ 3101 (1024 * d + k))))) else 0)), (0, .ref (L 36 d)), (1, .int f), (2, .int (cd_tr2i τ N d f k (cd_tr2 τ N d f k) i)), (3, .ref (L 43 d)), (4, .ref t103), (5, .ref (L 31 (1024 * d + k))), (6, .int (nI i))] (.int v207 :: .int (cd_tr2i τ N d f k (cd_tr2 τ N d f k) i) :: []) := by
                        intro v207 ev207
                        subst ev207
                        refine ga_iadd X dX1_tradesOf_207 ?_
                        refine ga_istore_n X [(2, .int ((cd_tr2i τ N d f k (cd_tr2 τ N d f k) i) + (if (τ 3103 (1024 * d + k)) = 0 then if (τ 3100 (1024 * d + k)) = f then if (τ 3108 (1024 * d + k)) = 0 then 0 else if (cd_isIn τ d k (nI i)) = 0 then 0 else (τ 3105 (1024 * d + k)) * (τ 4400 (3 * (4 * d + i) + (cx (τ 3101 (1024 * d + k))))) else 0 else -(if (τ 3100 (1024 * d + k)) = f then if (τ 3108 (1024 * d + k)) = 0 then 0 else if (cd_isIn τ d k (nI i)) = 0 then 0 else (τ 3105 (1024 * d + k)) * (τ 4400 (3 * (4 * d + i) + (cx (τ 3101 (1024 * d + k))))) else 0)))), (7, .int (if (τ 3100 (1024 * d + k)) = f then if (τ 3108 (1024 * d + k)) = 0 then 0 else if (cd_isIn τ d k (nI i)) = 0 then 0 else (τ 3105 (1024 * d + k)) * (τ 4400 (3 * (4 * d + i) + (cx (τ 3101 (1024 * d + k))))) else 0)), (0, .ref (L 36 d)), (1, .int f), (3, .ref (L 43 d)), (4, .ref t103), (5, .ref (L 31 (1024 * d + k))), (6, .int (nI i))] dX1_tradesOf_208 rfl (by decide) rfl ?_
                        refine ga_iinc X 7 [(6, .int (nI (i + 1))), (2, .int ((cd_tr2i τ N d f k (cd_tr2 τ N d f k) i) + (if (τ 3103 (1024 * d + k)) = 0 then if (τ 3100 (1024 * d + k)) = f then if (τ 3108 (1024 * d + k)) = 0 then 0 else if (cd_isIn τ d k (nI i)) = 0 then 0 else (τ 3105 (1024 * d + k)) * (τ 4400 (3 * (4 * d + i) + (cx (τ 3101 (1024 * d + k))))) else 0 else -(if (τ 3100 (1024 * d + k)) = f then if (τ 3108 (1024 * d + k)) = 0 then 0 else if (cd_isIn τ d k (nI i)) = 0 then 0 else (τ 3105 (1024 * d + k)) * (τ 4400 (3 * (4 * d + i) + (cx (τ 3101 (1024 * d + k))))) else 0)))), (7, .int (if (τ 3100 (1024 * d + k)) = f then if (τ 3108 (1024 * d + k)) = 0 then 0 else if (cd_isIn τ d k (nI i)) = 0 then 0 else (τ 3105 (1024 * d + k)) * (τ 4400 (3 * (4 * d + i) + (cx (τ 3101 (1024 * d + k))))) else 0)), (0, .ref (L 36 d)), (1, .int f), (3, .ref (L 43 d)), (4, .ref t103), (5, .ref (L 31 (1024 * d + k)))] dX1_tradesOf_209 rfl (nI_1 i) (by decide) rfl ?_
                        refine ga_goto X (tgt := 135) dX1_tradesOf_212 (by decide) ?_
                        refine ga_sub [3, 4, 1, 5, 6, 7, 0] rfl ?_
                        exact ih135 (i + 1) h n _ _ (by omega) (by omega) ((cd_tr2i_s τ N d f k (cd_tr2 τ N d f k) i).symm) rfl hP hn hF hn1 ht_t103 hl_t103
                      refine ga_if_eq X (tgt := 205) dX1_tradesOf_196 (by decide) (fun c_196 => ?_) (fun c_196 => ?_)
                      · refine ga_iload X 0 dX1_tradesOf_205 rfl ?_
                        exact J207 _ ((if_pos c_196).symm)
                      · refine ga_iload X 0 dX1_tradesOf_199 rfl ?_
                        refine ga_ineg X dX1_tradesOf_201 ?_
                        refine ga_goto X (tgt := 207) dX1_tradesOf_202 (by decide) ?_
                        exact J207 _ ((if_neg c_196).symm)
                    refine ga_icmp_ne X (tgt := 187) dX1_tradesOf_147 (by decide) (fun c_147 => ?_) (fun c_147 => ?_)
                    · refine ga_iconst X (v := 0) dX1_tradesOf_187 (by decide) ?_
                      exact J188 _ ((if_neg c_147).symm)
                    · refine ga_aload X 5 dX1_tradesOf_150 rfl ?_
                      refine ga_getN X in_X5 (ci := 4) rfl 8 (by decide) q549 rfl (hP.r31 hd hj_11).1 rfl dX1_tradesOf_152 ?_
                      refine ga_if_eq X (tgt := 187) dX1_tradesOf_155 (by decide) (fun c_155 => ?_) (fun c_155 => ?_)
                      · refine ga_iconst X (v := 0) dX1_tradesOf_187 (by decide) ?_
                        exact J188 _ (((if_pos c_147).trans (if_pos c_155)).symm)
                      · refine ga_aload X 5 dX1_tradesOf_158 rfl ?_
                        refine ga_iload X 6 dX1_tradesOf_160 rfl ?_
                        refine ga_callV X Y (cm_isIn _ X.tr G L N τ d k (nI i) hd hj_11 _ _ _ hP hn) wX1_298 (ci := 4) rfl (hP.r31 hd hj_11).1 ⟨Nat.le_of_ble_eq_true rfl, Nat.le_of_ble_eq_true rfl⟩ ⟨(by first | decide | omega | (dsimp only; omega)), (by first | decide | omega | (dsimp only; omega))⟩ rfl (Nat.le_of_ble_eq_true rfl) dX1_tradesOf_162 (fun v9 h9 n9 hq _ => ?_) (fun _ _ _ q _ => q.elim)
                        obtain ⟨rfl, hq2, hq3⟩ := hq
                        rw [hq2, hq3]
                        refine ga_widen (k2 := 2) (n2 := 8) (by first | decide | omega | (dsimp only; omega)) (by first | decide | omega | (dsimp only; omega)) ?_
                        show ga Γ G _ _ _ _ 165 [(0, .ref (L 36 d)), (1, .int f), (2, .int (cd_tr2i τ N d f k (cd_tr2 τ N d f k) i)), (3, .ref (L 43 d)), (4, .ref t103), (5, .ref (L 31 (1024 * d + k))), (6, .int (nI i))] (.int (cd_isIn τ d k (nI i)) :: [])
                        refine ga_if_eq X (tgt := 187) dX1_tradesOf_165 (by decide) (fun c_165 => ?_) (fun c_165 => ?_)
                        · refine ga_iconst X (v := 0) dX1_tradesOf_187 (by decide) ?_
                          exact J188 _ (((if_pos c_147).trans ((if_neg c_155).trans (if_pos c_165))).symm)
                        · refine ga_aload X 5 dX1_tradesOf_168 rfl ?_
                          refine ga_getN X in_X5 (ci := 4) rfl 5 (by decide) q543 rfl (hP.r31 hd hj_11).1 rfl dX1_tradesOf_170 ?_
                          refine ga_aload_n X 3 dX1_tradesOf_173 rfl rfl ?_
                          refine ga_iload X 6 dX1_tradesOf_174 rfl ?_
                          obtain ⟨f_16, hf_16, hv_16⟩ := hP.r43 hd hr
                          refine ga_aald X (k := 6) i rfl (by omega) (by decide) rfl rfl hf_16 dX1_tradesOf_176 (show va_rf (f_16 i) = .ref (L 44 (4 * d + i)) by rw [hv_16 i (by omega)]; rfl) ?_
                          refine ga_aload X 5 dX1_tradesOf_177 rfl ?_
                          refine ga_getN X in_X5 (ci := 4) rfl 1 (by decide) q535 rfl (hP.r31 hd hj_11).1 rfl dX1_tradesOf_179 ?_
                          have rg_17 := hV.r3101 hd hj_11
                          have rl_17 := cx_lt rg_17 (m := 3) (by decide) (by decide)
                          obtain ⟨f_18, hf_18, hv_18⟩ := hP.r44 hd hr (by omega)
                          refine ga_iald X (cx (τ 3101 (1024 * d + k))) (cx_e rg_17) (by omega) (by decide) hf_18 dX1_tradesOf_182 ?_
                          refine ga_st (st' := .int (τ 4400 (3 * (4 * d + i) + (cx (τ 3101 (1024 * d + k))))) :: .int (τ 3105 (1024 * d + k)) :: []) (by rw [hv_18 (cx (τ 3101 (1024 * d + k))) (by omega)]) ?_
                          have rg_19 := hV.r3101 hd hj_11
                          have rl_19 := cx_lt rg_19 (m := 3) (by decide) (by decide)
                          refine ga_imul X dX1_tradesOf_183 ?_
                          refine ga_goto X (tgt := 188) dX1_tradesOf_184 (by decide) ?_
                          exact J188 _ (((if_pos c_147).trans ((if_neg c_155).trans (if_neg c_165))).symm)
              refine ga_sub [2, 3, 4, 5, 6, 1, 0] rfl ?_
              exact L135 (4 + 1) 0 h n _ _ (by omega) (by omega) rfl rfl hP hn hF hn1 ht_t103 hl_t103
        refine ga_sub [1, 2, 3, 4, 0] rfl ?_
        exact L110 (N 11 d + 1) 0 _ h n _ (by omega) (by omega) rfl hP hn hF hn1 ht_t103 hl_t103
      · have hx_28 : i < N 10 d := c_28
        refine ga_aload X 4 dX1_tradesOf_31 rfl ?_
        have hj_20 : i < N 10 d := by omega
        obtain ⟨f_20, hE_20, hk_20, hb_20, hf_20, he_20⟩ := hP.r20 hd (by omega)
        have hx_20 := hP.lt (hP.l10 hd)
        have hy_20 := hP.lt (hP.l20 hd (by omega))
        rw [← he_20] at hy_20
        refine ga_callF X Y (jm_next _ X.tr G t14 (L 10 d) (gc_e G L N 10 d) (N 10 d) (N 20 d) i _ (τ 1000 d) lr f_20 _ _ ht_t14 (Nat.le_trans hP.G hb_t14) (hP.r10 hd) hE_20 hj_20 hk_20 (by omega) (hf_20 i hj_20) (by omega) (by omega)) wX1_228 (ci := 12) rfl ht_t14 ⟨Nat.le_of_ble_eq_true rfl, Nat.le_of_ble_eq_true rfl⟩ ⟨(by first | decide | omega | (dsimp only; omega)), (by first | decide | omega | (dsimp only; omega))⟩ rfl (Nat.le_of_ble_eq_true rfl) dX1_tradesOf_33 (fun v9 h9 n9 hq _ => ?_) (fun _ _ _ q _ => q.elim)
        obtain ⟨rfl, hq2, hq3⟩ := hq
        rw [hq2, hq3]
        show ga Γ G _ _ _ _ 38 [(0, .ref (L 36 d)), (1, .int f), (2, .int (cd_tr1 τ N d f i)), (3, .ref (L 43 d)), (4, .ref t14)] (.ref (L 30 (1024 * d + i)) :: [])
        refine gq_up (P := fun h => ga Γ G h n 1 4 38 [(0, .ref (L 36 d)), (1, .int f), (2, .int (cd_tr1 τ N d f i)), (3, .ref (L 43 d)), (4, .ref t14)] (.ref (L 30 (1024 * d + i)) :: [])) hP hF hb_t14 ha_t14 (fun h hP hF ht_t14 hk => ?_)
        refine ga_cast X (ci := 3) rfl q402 (hP.r30 hd hj_20) dX1_tradesOf_38 ?_
        refine ga_astore X [(5, .ref (L 30 (1024 * d + i))), (0, .ref (L 36 d)), (1, .int f), (2, .int (cd_tr1 τ N d f i)), (3, .ref (L 43 d)), (4, .ref t14)] dX1_tradesOf_41 (by decide) rfl ?_
        refine ga_aload X 0 dX1_tradesOf_43 rfl ?_
        refine ga_getN X in_X4 (ci := 3) rfl 0 (by decide) q410 rfl (hP.r30 hd hj_20) rfl dX1_tradesOf_45 ?_
        refine ga_iload_n X 2 dX1_tradesOf_48 rfl rfl ?_
        have J75 : ∀ (v75 : Int32), v75 = (if (τ 3000 (1024 * d + i)) = f then (τ 3006 (1024 * d + i)) * (τ 4400 (3 * (4 * d + (cx (τ 3002 (1024 * d + i)))) + (cx (τ 3001 (1024 * d + i))))) else 0) → ga Γ G h n 1 4 75 [(5, .ref (L 30 (1024 * d + i))), (0, .ref (L 36 d)), (1, .int f), (2, .int (cd_tr1 τ N d f i)), (3, .ref (L 43 d)), (4, .ref t14)] (.int v75 :: []) := by
          intro v75 ev75
          subst ev75
          refine ga_istore X [(6, .int (if (τ 3000 (1024 * d + i)) = f then (τ 3006 (1024 * d + i)) * (τ 4400 (3 * (4 * d + (cx (τ 3002 (1024 * d + i)))) + (cx (τ 3001 (1024 * d + i))))) else 0)), (5, .ref (L 30 (1024 * d + i))), (0, .ref (L 36 d)), (1, .int f), (2, .int (cd_tr1 τ N d f i)), (3, .ref (L 43 d)), (4, .ref t14)] dX1_tradesOf_75 (by decide) rfl ?_
          refine ga_iload_n X 4 dX1_tradesOf_77 rfl rfl ?_
          refine ga_aload X 1 dX1_tradesOf_78 rfl ?_
          refine ga_getN X in_X4 (ci := 3) rfl 3 (by decide) q420 rfl (hP.r30 hd hj_20) rfl dX1_tradesOf_80 ?_
          have J94 : ∀ (v94 : Int32), v94 = (if (τ 3003 (1024 * d + i)) = 0 then if (τ 3000 (1024 * d + i)) = f then (τ 3006 (1024 * d + i)) * (τ 4400 (3 * (4 * d + (cx (τ 3002 (1024 * d + i)))) + (cx (τ 3001 (1024 * d + i))))) else 0 else -(if (τ 3000 (1024 * d + i)) = f then (τ 3006 (1024 * d + i)) * (τ 4400 (3 * (4 * d + (cx (τ 3002 (1024 * d + i)))) + (cx (τ 3001 (1024 * d + i))))) else 0)) → ga Γ G h n 1 4 94 [(6, .int (if (τ 3000 (1024 * d + i)) = f then (τ 3006 (1024 * d + i)) * (τ 4400 (3 * (4 * d + (cx (τ 3002 (1024 * d + i)))) + (cx (τ 3001 (1024 * d + i))))) else 0)), (5, .ref (L 30 (1024 * d + i))), (0, .ref (L 36 d)), (1, .int f), (2, .int (cd_tr1 τ N d f i)), (3, .ref (L 43 d)), (4, .ref t14)] (.int v94 :: .int (cd_tr1 τ N d f i) :: []) := by
            intro v94 ev94
            subst ev94
            refine ga_iadd X dX1_tradesOf_94 ?_
            refine ga_istore_n X [(2, .int ((cd_tr1 τ N d f i) + (if (τ 3003 (1024 * d + i)) = 0 then if (τ 3000 (1024 * d + i)) = f then (τ 3006 (1024 * d + i)) * (τ 4400 (3 * (4 * d + (cx (τ 3002 (1024 * d + i)))) + (cx (τ 3001 (1024 * d + i))))) else 0 else -(if (τ 3000 (1024 * d + i)) = f then (τ 3006 (1024 * d + i)) * (τ 4400 (3 * (4 * d + (cx (τ 3002 (1024 * d + i)))) + (cx (τ 3001 (1024 * d + i))))) else 0)))), (6, .int (if (τ 3000 (1024 * d + i)) = f then (τ 3006 (1024 * d + i)) * (τ 4400 (3 * (4 * d + (cx (τ 3002 (1024 * d + i)))) + (cx (τ 3001 (1024 * d + i))))) else 0)), (5, .ref (L 30 (1024 * d + i))), (0, .ref (L 36 d)), (1, .int f), (3, .ref (L 43 d)), (4, .ref t14)] dX1_tradesOf_95 rfl (by decide) rfl ?_
            refine ga_goto X (tgt := 21) dX1_tradesOf_96 (by decide) ?_
            refine ga_sub [3, 4, 0, 5, 6] rfl ?_
            exact ih21 (i + 1) _ h n _ (by omega) (by omega) ((cd_tr1_s τ N d f i).symm) hP hn hF hn1 ht_t14 hl_t14
          refine ga_if_eq X (tgt := 92) dX1_tradesOf_83 (by decide) (fun c_83 => ?_) (fun c_83 => ?_)
          · refine ga_iload X 0 dX1_tradesOf_92 rfl ?_
            exact J94 _ ((if_pos c_83).symm)
          · refine ga_iload X 0 dX1_tradesOf_86 rfl ?_
            refine ga_ineg X dX1_tradesOf_88 ?_
            refine ga_goto X (tgt := 94) dX1_tradesOf_89 (by decide) ?_
            exact J94 _ ((if_neg c_83).symm)
        refine ga_icmp_ne X (tgt := 74) dX1_tradesOf_49 (by decide) (fun c_49 => ?_) (fun c_49 => ?_)
        · refine ga_iconst X (v := 0) dX1_tradesOf_74 (by decide) ?_
          exact J75 _ ((if_neg c_49).symm)
        · refine ga_aload X 0 dX1_tradesOf_52 rfl ?_
          refine ga_getN X in_X4 (ci := 3) rfl 6 (by decide) q428 rfl (hP.r30 hd hj_20) rfl dX1_tradesOf_54 ?_
          refine ga_aload_n X 4 dX1_tradesOf_57 rfl rfl ?_
          refine ga_aload X 0 dX1_tradesOf_58 rfl ?_
          refine ga_getN X in_X4 (ci := 3) rfl 2 (by decide) q416 rfl (hP.r30 hd hj_20) rfl dX1_tradesOf_60 ?_
          have rg_26 := hV.r3002 hd hj_20
          have rl_26 := cx_lt rg_26 (m := 4) (by decide) (by decide)
          obtain ⟨f_27, hf_27, hv_27⟩ := hP.r43 hd hr
          refine ga_aald X (k := 6) (cx (τ 3002 (1024 * d + i))) (cx_e rg_26) (by omega) (by decide) rfl rfl hf_27 dX1_tradesOf_63 (show va_rf (f_27 (cx (τ 3002 (1024 * d + i)))) = .ref (L 44 (4 * d + (cx (τ 3002 (1024 * d + i))))) by rw [hv_27 (cx (τ 3002 (1024 * d + i))) (by omega)]; rfl) ?_
          refine ga_aload X 0 dX1_tradesOf_64 rfl ?_
          refine ga_getN X in_X4 (ci := 3) rfl 1 (by decide) q413 rfl (hP.r30 hd hj_20) rfl dX1_tradesOf_66 ?_
          have rg_28 := hV.r3001 hd hj_20
          have rl_28 := cx_lt rg_28 (m := 3) (by decide) (by decide)
          obtain ⟨f_29, hf_29, hv_29⟩ := hP.r44 hd hr (by omega)
          refine ga_iald X (cx (τ 3001 (1024 * d + i))) (cx_e rg_28) (by omega) (by decide) hf_29 dX1_tradesOf_69 ?_
          refine ga_st (st' := .int (τ 4400 (3 * (4 * d + (cx (τ 3002 (1024 * d + i)))) + (cx (τ 3001 (1024 * d + i))))) :: .int (τ 3006 (1024 * d + i)) :: []) (by rw [hv_29 (cx (τ 3001 (1024 * d + i))) (by omega)]) ?_
          have rg_30 := hV.r3001 hd hj_20
          have rl_30 := cx_lt rg_30 (m := 3) (by decide) (by decide)
          refine ga_imul X dX1_tradesOf_70 ?_
          refine ga_goto X (tgt := 75) dX1_tradesOf_71 (by decide) ?_
          exact J75 _ ((if_pos c_49).symm)
  refine ga_sub [3, 4, 2, 1, 0] rfl ?_
  exact L21 (N 10 d + 1) 0 _ h n _ (by omega) (by omega) rfl hP hn hF hn1 ht_t14 hl_t14
