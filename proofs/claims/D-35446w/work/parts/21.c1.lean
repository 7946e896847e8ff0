set_option maxRecDepth 100000
def cd_isIn (τ : gm_S) (d j : Nat) (hr : Int32) : Int32 := bI ((((τ 3102 (1024 * d + j)) >>> (hr &&& 31)) &&& 1) = 1)
set_option maxHeartbeats 4000000 in
theorem cm_isIn (l : Launch) (hl : l.stackTraces = false) (G : ga_X) (L N : gc_L) (τ : gm_S) (d j : Nat) (hr : Int32) (hd : d ≤ N 16 0) (hj : j < N 11 d) : gh_C l G yX5_isIn cX5_isIn 2 (some FieldType.boolean) ({ frames := 0, cells := 0, slots := 0, locals := 0 } : Room) [.ref (L 31 (1024 * d + j)), .int hr] L N τ (some (.int (cd_isIn τ d j hr))) := by
  refine gh_start RX5 hl rfl (by decide) (Nat.le_of_ble_eq_true rfl) (fun Γ h n0 n e X Y hP hn => ?_)
  subst e
  show ga Γ G h n 0 0 0 [(0, .ref (L 31 (1024 * d + j))), (1, .int hr)] []
  refine ga_aload_n X 0 dX5_isIn_0 rfl rfl ?_
  refine ga_get X in_X5 (ci := 4) rfl 2 (by decide) q536 rfl (hP.r31 hd hj).1 rfl dX5_isIn_1 ?_
  refine ga_iload_n X 1 dX5_isIn_4 rfl rfl ?_
  refine ga_ishr X dX5_isIn_5 ?_
  refine ga_iconst X (v := 1) dX5_isIn_6 (by decide) ?_
  refine ga_iand X dX5_isIn_7 ?_
  refine ga_iconst X (v := 1) dX5_isIn_8 (by decide) ?_
  have J17 : ∀ (v17 : Int32), v17 = (bI ((((τ 3102 (1024 * d + j)) >>> (hr &&& 31)) &&& 1) = 1)) → ga Γ G h n 0 0 17 [(0, .ref (L 31 (1024 * d + j))), (1, .int hr)] (.int v17 :: []) := by
    intro v17 ev17
    subst ev17
    exact ga_zret X Y bI_nar dX5_isIn_17 (by first | decide | omega | (dsimp only; omega)) (by first | decide | omega | (dsimp only; omega)) ⟨congrArg (fun z => some (Value.int z)) (show (bI ((((τ 3102 (1024 * d + j)) >>> (hr &&& 31)) &&& 1) = 1)) = cd_isIn τ d j hr from by unfold cd_isIn; exact (rfl).symm), rfl, rfl⟩
  refine ga_icmp_ne X (tgt := 16) dX5_isIn_9 (by decide) (fun c_9 => ?_) (fun c_9 => ?_)
  · refine ga_iconst X (v := 0) dX5_isIn_16 (by decide) ?_
    exact J17 _ ((bI_f c_9).symm)
  · refine ga_iconst X (v := 1) dX5_isIn_12 (by decide) ?_
    refine ga_goto X (tgt := 17) dX5_isIn_13 (by decide) ?_
    exact J17 _ ((bI_t c_9).symm)
def cd_plan1 (τ : gm_S) (N : gc_L) (d : Nat) (f z y : Int32) : Nat → Int32
  | 0 => 0
  | i + 1 => (cd_plan1 τ N d f z y i) + (if ((τ 3000 (1024 * d + i)) = f) ∧ (((τ 3001 (1024 * d + i)) = z) ∧ ((τ 3002 (1024 * d + i)) = y)) then if (τ 3003 (1024 * d + i)) = 0 then τ 3006 (1024 * d + i) else -(τ 3006 (1024 * d + i)) else 0)
theorem cd_plan1_s (τ : gm_S) (N : gc_L) (d : Nat) (f z y : Int32) (i : Nat) : cd_plan1 τ N d f z y (i + 1) = (cd_plan1 τ N d f z y i) + (if ((τ 3000 (1024 * d + i)) = f) ∧ (((τ 3001 (1024 * d + i)) = z) ∧ ((τ 3002 (1024 * d + i)) = y)) then if (τ 3003 (1024 * d + i)) = 0 then τ 3006 (1024 * d + i) else -(τ 3006 (1024 * d + i)) else 0) := rfl
def cd_plan2 (τ : gm_S) (N : gc_L) (d : Nat) (f z y : Int32) : Nat → Int32
  | 0 => cd_plan1 τ N d f z y (N 10 d)
  | i + 1 => (cd_plan2 τ N d f z y i) + (if ¬ ((τ 3108 (1024 * d + i)) = 0) ∧ (((τ 3100 (1024 * d + i)) = f) ∧ (((τ 3101 (1024 * d + i)) = z) ∧ (¬ ((cd_isIn τ d i y) = 0)))) then if (τ 3103 (1024 * d + i)) = 0 then τ 3105 (1024 * d + i) else -(τ 3105 (1024 * d + i)) else 0)
theorem cd_plan2_s (τ : gm_S) (N : gc_L) (d : Nat) (f z y : Int32) (i : Nat) : cd_plan2 τ N d f z y (i + 1) = (cd_plan2 τ N d f z y i) + (if ¬ ((τ 3108 (1024 * d + i)) = 0) ∧ (((τ 3100 (1024 * d + i)) = f) ∧ (((τ 3101 (1024 * d + i)) = z) ∧ (¬ ((cd_isIn τ d i y) = 0)))) then if (τ 3103 (1024 * d + i)) = 0 then τ 3105 (1024 * d + i) else -(τ 3105 (1024 * d + i)) else 0) := rfl
def cd_plan3 (τ : gm_S) (N : gc_L) (d : Nat) (f z y : Int32) : Nat → Int32
  | 0 => cd_plan2 τ N d f z y (N 11 d)
  | i + 1 => ((cd_plan3 τ N d f z y i) - (if (τ 3302 (1024 * d + (N 64 (1024 * d + i)))) = y then if (τ 3300 (1024 * d + (N 64 (1024 * d + i)))) = f then if (τ 3301 (1024 * d + (N 64 (1024 * d + i)))) = z then τ 3403 (1024 * d + i) else 0 else 0 else 0)) + (if (τ 3302 (1024 * d + (N 64 (1024 * d + i)))) = y then if (τ 3300 (1024 * d + (N 65 (1024 * d + i)))) = f then if (τ 3301 (1024 * d + (N 65 (1024 * d + i)))) = z then τ 3403 (1024 * d + i) else 0 else 0 else 0)
theorem cd_plan3_s (τ : gm_S) (N : gc_L) (d : Nat) (f z y : Int32) (i : Nat) : cd_plan3 τ N d f z y (i + 1) = ((cd_plan3 τ N d f z y i) - (if (τ 3302 (1024 * d + (N 64 (1024 * d + i)))) = y then if (τ 3300 (1024 * d + (N 64 (1024 * d + i)))) = f then if (τ 3301 (1024 * d + (N 64 (1024 * d + i)))) = z then τ 3403 (1024 * d + i) else 0 else 0 else 0)) + (if (τ 3302 (1024 * d + (N 64 (1024 * d + i)))) = y then if (τ 3300 (1024 * d + (N 65 (1024 * d + i)))) = f then if (τ 3301 (1024 * d + (N 65 (1024 * d + i)))) = z then τ 3403 (1024 * d + i) else 0 else 0 else 0) := rfl
def cd_plan (τ : gm_S) (N : gc_L) (d : Nat) (f z y : Int32) : Int32 := cd_plan3 τ N d f z y (N 14 d)
set_option maxHeartbeats 4000000 in
theorem cm_plan (l : Launch) (hl : l.stackTraces = false) (G : ga_X) (L N : gc_L) (τ : gm_S) (d : Nat) (f z y : Int32) (hd : d ≤ N 16 0) : gq_C l G yX2_plan cX2_plan 8 (some FieldType.int) ({ frames := 3, cells := 3, slots := 12, locals := 61 } : Room) [.ref (L 36 d), .int f, .int z, .int y] L N τ (.int (cd_plan τ N d f z y)) := by
  refine gq_start RX2 hl rfl (by decide) (Nat.le_of_ble_eq_true rfl) (fun Γ h1 h n0 n1 n e X Y hP hn hF hn1 hn01 => ?_)
  subst e
  show ga Γ G h n 0 0 0 [(0, .ref (L 36 d)), (1, .int f), (2, .int z), (3, .int y)] []
  refine ga_iconst X (v := 0) dX2_plan_0 (by decide) ?_
  refine ga_istore X [(4, .int 0), (0, .ref (L 36 d)), (1, .int f), (2, .int z), (3, .int y)] dX2_plan_1 (by decide) rfl ?_
  refine ga_aload_n X 1 dX2_plan_3 rfl rfl ?_
  refine ga_get X in_X2 (ci := 1) rfl 0 (by decide) q143 rfl (hP.r36 hd) rfl dX2_plan_4 ?_
  refine ga_callF X Y (jm_iter _ X.tr G (L 10 d) (gc_e G L N 10 d) (N 10 d) (τ 1000 d) _ _ (hP.r10 hd) (Nat.lt_of_lt_of_le (hP.lt (hP.l10 hd)) hn) (Nat.le_trans hP.G hn)) wX2_47 (ci := 11) rfl (hP.r10 hd) ⟨Nat.le_of_ble_eq_true rfl, Nat.le_of_ble_eq_true rfl⟩ ⟨(by first | decide | omega | (dsimp only; omega)), (by first | decide | omega | (dsimp only; omega))⟩ rfl (Nat.le_of_ble_eq_true rfl) dX2_plan_7 (fun v9 h9 n9 hq _ => ?_) (fun _ _ _ q _ => q.elim)
  obtain ⟨rfl, hq2, hq3⟩ := hq
  rw [hq2, hq3]
  refine ga_widen (k2 := 1) (n2 := 4) (by first | decide | omega | (dsimp only; omega)) (by first | decide | omega | (dsimp only; omega)) ?_
  refine gq_al (P := fun t h n => ga Γ G h n 1 4 12 [(4, .int 0), (0, .ref (L 36 d)), (1, .int f), (2, .int z), (3, .int y)] (.ref t :: [])) hP hn hF hn1 (fun t7 h n hP hn hF hn1 hk ht_t7 hl_t7 ha_t7 hb_t7 he_t7 => ?_)
  refine ga_astore X [(5, .ref t7), (4, .int 0), (0, .ref (L 36 d)), (1, .int f), (2, .int z), (3, .int y)] dX2_plan_12 (by decide) rfl ?_
  have L14 : ∀ (fu i : Nat) (lr : Int32) (h : ga_H) (n : Nat) (x4 : Int32), i ≤ N 10 d → N 10 d < i + fu → x4 = (cd_plan1 τ N d f z y i) → gc_P G L N (τ) n0 h → n0 ≤ n → (∀ a, a < n1 → h a = h1 a) → n1 ≤ n → h t7 = some (ga_O 12 [.int (nI i), .int lr, .int (τ 1000 d), .ref (L 10 d)]) → t7 < n → ga Γ G h n 1 4 14 [(0, .ref (L 36 d)), (1, .int f), (2, .int z), (3, .int y), (4, .int x4), (5, .ref t7)] ([]) := by
    intro fu
    induction fu with
    | zero => intro i lr h n x4 hi hd; exact absurd hd (by omega)
    | succ fu ih14 =>
      intro i lr h n x4 hi14 hd14 e4 hP hn hF hn1 ht_t7 hl_t7
      rw [e4]
      refine ga_aload X 5 dX2_plan_14 rfl ?_
      refine ga_callF X Y (jm_hn _ X.tr G t7 (L 10 d) (gc_e G L N 10 d) (N 10 d) i (τ 1000 d) lr _ _ ht_t7 (hP.r10 hd) (by omega) (Nat.lt_of_le_of_lt (hP.n10 d) (by decide))) wX2_53 (ci := 12) rfl ht_t7 ⟨Nat.le_of_ble_eq_true rfl, Nat.le_of_ble_eq_true rfl⟩ ⟨(by first | decide | omega | (dsimp only; omega)), (by first | decide | omega | (dsimp only; omega))⟩ rfl (Nat.le_of_ble_eq_true rfl) dX2_plan_16 (fun v9 h9 n9 hq _ => ?_) (fun _ _ _ q _ => q.elim)
      obtain ⟨rfl, hq2, hq3⟩ := hq
      rw [hq2, hq3]
      show ga Γ G _ _ _ _ 21 [(0, .ref (L 36 d)), (1, .int f), (2, .int z), (3, .int y), (4, .int (cd_plan1 τ N d f z y i)), (5, .ref t7)] (.int (bI (i < N 10 d)) :: [])
      refine ga_ifb_eq X (tgt := 109) dX2_plan_21 (by decide) (fun c_21 => ?_) (fun c_21 => ?_)
      · have hx_21 : N 10 d = i := Nat.le_antisymm (Nat.le_of_not_lt c_21) hi14
        subst hx_21
        refine ga_aload_n X 0 dX2_plan_109 rfl rfl ?_
        refine ga_get X in_X2 (ci := 1) rfl 1 (by decide) q145 rfl (hP.r36 hd) rfl dX2_plan_110 ?_
        refine ga_callF X Y (jm_iter _ X.tr G (L 11 d) (gc_e G L N 11 d) (N 11 d) (τ 1100 d) _ _ (hP.r11 hd) (Nat.lt_of_lt_of_le (hP.lt (hP.l11 hd)) hn) (Nat.le_trans hP.G hn)) wX2_47 (ci := 11) rfl (hP.r11 hd) ⟨Nat.le_of_ble_eq_true rfl, Nat.le_of_ble_eq_true rfl⟩ ⟨(by first | decide | omega | (dsimp only; omega)), (by first | decide | omega | (dsimp only; omega))⟩ rfl (Nat.le_of_ble_eq_true rfl) dX2_plan_113 (fun v9 h9 n9 hq _ => ?_) (fun _ _ _ q _ => q.elim)
        obtain ⟨rfl, hq2, hq3⟩ := hq
        rw [hq2, hq3]
        refine ga_widen (k2 := 2) (n2 := 8) (by first | decide | omega | (dsimp only; omega)) (by first | decide | omega | (dsimp only; omega)) ?_
        refine gq_al (P := fun t h n => ga Γ G h n 2 8 118 [(0, .ref (L 36 d)), (1, .int f), (2, .int z), (3, .int y), (4, .int (cd_plan1 τ N d f z y (N 10 d))), (5, .ref t7)] (.ref t :: [])) hP hn hF hn1 (fun t113 h n hP hn hF hn1 hk ht_t113 hl_t113 ha_t113 hb_t113 he_t113 => ?_)
        refine ga_astore X [(5, .ref t113), (0, .ref (L 36 d)), (1, .int f), (2, .int z), (3, .int y), (4, .int (cd_plan1 τ N d f z y (N 10 d)))] dX2_plan_118 (by decide) rfl ?_
        have L120 : ∀ (fu i : Nat) (lr : Int32) (h : ga_H) (n : Nat) (x4 : Int32), i ≤ N 11 d → N 11 d < i + fu → x4 = (cd_plan2 τ N d f z y i) → gc_P G L N (τ) n0 h → n0 ≤ n → (∀ a, a < n1 → h a = h1 a) → n1 ≤ n → h t113 = some (ga_O 12 [.int (nI i), .int lr, .int (τ 1100 d), .ref (L 11 d)]) → t113 < n → ga Γ G h n 2 8 120 [(0, .ref (L 36 d)), (1, .int f), (2, .int z), (3, .int y), (4, .int x4), (5, .ref t113)] ([]) := by
          intro fu
          induction fu with
          | zero => intro i lr h n x4 hi hd; exact absurd hd (by omega)
          | succ fu ih120 =>
            intro i lr h n x4 hi120 hd120 e4 hP hn hF hn1 ht_t113 hl_t113
            rw [e4]
            refine ga_aload X 5 dX2_plan_120 rfl ?_
            refine ga_callF X Y (jm_hn _ X.tr G t113 (L 11 d) (gc_e G L N 11 d) (N 11 d) i (τ 1100 d) lr _ _ ht_t113 (hP.r11 hd) (by omega) (Nat.lt_of_le_of_lt (hP.n11 d) (by decide))) wX2_53 (ci := 12) rfl ht_t113 ⟨Nat.le_of_ble_eq_true rfl, Nat.le_of_ble_eq_true rfl⟩ ⟨(by first | decide | omega | (dsimp only; omega)), (by first | decide | omega | (dsimp only; omega))⟩ rfl (Nat.le_of_ble_eq_true rfl) dX2_plan_122 (fun v9 h9 n9 hq _ => ?_) (fun _ _ _ q _ => q.elim)
            obtain ⟨rfl, hq2, hq3⟩ := hq
            rw [hq2, hq3]
            show ga Γ G _ _ _ _ 127 [(0, .ref (L 36 d)), (1, .int f), (2, .int z), (3, .int y), (4, .int (cd_plan2 τ N d f z y i)), (5, .ref t113)] (.int (bI (i < N 11 d)) :: [])
            refine ga_ifb_eq X (tgt := 223) dX2_plan_127 (by decide) (fun c_127 => ?_) (fun c_127 => ?_)
            · have hx_127 : N 11 d = i := Nat.le_antisymm (Nat.le_of_not_lt c_127) hi120
              subst hx_127
              refine ga_aload_n X 0 dX2_plan_223 rfl rfl ?_
              refine ga_get X in_X2 (ci := 1) rfl 4 (by decide) q151 rfl (hP.r36 hd) rfl dX2_plan_224 ?_
              refine ga_callF X Y (jm_iter _ X.tr G (L 14 d) (gc_e G L N 14 d) (N 14 d) (τ 1400 d) _ _ (hP.r14 hd) (Nat.lt_of_lt_of_le (hP.lt (hP.l14 hd)) hn) (Nat.le_trans hP.G hn)) wX2_47 (ci := 11) rfl (hP.r14 hd) ⟨Nat.le_of_ble_eq_true rfl, Nat.le_of_ble_eq_true rfl⟩ ⟨(by first | decide | omega | (dsimp only; omega)), (by first | decide | omega | (dsimp only; omega))⟩ rfl (Nat.le_of_ble_eq_true rfl) dX2_plan_227 (fun v9 h9 n9 hq _ => ?_) (fun _ _ _ q _ => q.elim)
              obtain ⟨rfl, hq2, hq3⟩ := hq
              rw [hq2, hq3]
              refine ga_widen (k2 := 3) (n2 := 12) (by first | decide | omega | (dsimp only; omega)) (by first | decide | omega | (dsimp only; omega)) ?_
              refine gq_al (P := fun t h n => ga Γ G h n 3 12 232 [(0, .ref (L 36 d)), (1, .int f), (2, .int z), (3, .int y), (4, .int (cd_plan2 τ N d f z y (N 11 d))), (5, .ref t113)] (.ref t :: [])) hP hn hF hn1 (fun t227 h n hP hn hF hn1 hk ht_t227 hl_t227 ha_t227 hb_t227 he_t227 => ?_)
              refine ga_astore X [(5, .ref t227), (0, .ref (L 36 d)), (1, .int f), (2, .int z), (3, .int y), (4, .int (cd_plan2 τ N d f z y (N 11 d)))] dX2_plan_232 (by decide) rfl ?_
              have L234 : ∀ (fu i : Nat) (lr : Int32) (h : ga_H) (n : Nat) (x4 : Int32), i ≤ N 14 d → N 14 d < i + fu → x4 = (cd_plan3 τ N d f z y i) → gc_P G L N (τ) n0 h → n0 ≤ n → (∀ a, a < n1 → h a = h1 a) → n1 ≤ n → h t227 = some (ga_O 12 [.int (nI i), .int lr, .int (τ 1400 d), .ref (L 14 d)]) → t227 < n → ga Γ G h n 3 12 234 [(0, .ref (L 36 d)), (1, .int f), (2, .int z), (3, .int y), (4, .int x4), (5, .ref t227)] ([]) := by
                intro fu
                induction fu with
                | zero => intro i lr h n x4 hi hd; exact absurd hd (by omega)
                | succ fu ih234 =>
                  intro i lr h n x4 hi234 hd234 e4 hP hn hF hn1 ht_t227 hl_t227
                  rw [e4]
                  refine ga_aload X 5 dX2_plan_234 rfl ?_
                  refine ga_callF X Y (jm_hn _ X.tr G t227 (L 14 d) (gc_e G L N 14 d) (N 14 d) i (τ 1400 d) lr _ _ ht_t227 (hP.r14 hd) (by omega) (Nat.lt_of_le_of_lt (hP.n14 d) (by decide))) wX2_53 (ci := 12) rfl ht_t227 ⟨Nat.le_of_ble_eq_true rfl, Nat.le_of_ble_eq_true rfl⟩ ⟨(by first | decide | omega | (dsimp only; omega)), (by first | decide | omega | (dsimp only; omega))⟩ rfl (Nat.le_of_ble_eq_true rfl) dX2_plan_236 (fun v9 h9 n9 hq _ => ?_) (fun _ _ _ q _ => q.elim)
                  obtain ⟨rfl, hq2, hq3⟩ := hq
                  rw [hq2, hq3]
                  show ga Γ G _ _ _ _ 241 [(0, .ref (L 36 d)), (1, .int f), (2, .int z), (3, .int y), (4, .int (cd_plan3 τ N d f z y i)), (5, .ref t227)] (.int (bI (i < N 14 d)) :: [])
                  refine ga_ifb_eq X (tgt := 364) dX2_plan_241 (by decide) (fun c_241 => ?_) (fun c_241 => ?_)
                  · have hx_241 : N 14 d = i := Nat.le_antisymm (Nat.le_of_not_lt c_241) hi234
                    subst hx_241
                    refine ga_iload X 4 dX2_plan_364 rfl ?_
                    exact ga_iret X Y dX2_plan_366 (by first | decide | omega | (dsimp only; omega)) (by first | decide | omega | (dsimp only; omega)) ⟨congrArg (fun z => some (Value.int z)) (show (cd_plan3 τ N d f z y (N 14 d)) = cd_plan τ N d f z y from by unfold cd_plan; exact (rfl).symm), hn1, hF⟩
                  · have hx_241 : i < N 14 d := c_241
                    refine ga_aload X 5 dX2_plan_244 rfl ?_
                    have hj_1 : i < N 14 d := by omega
                    obtain ⟨f_1, hE_1, hk_1, hb_1, hf_1, he_1⟩ := hP.r24 hd (by omega)
                    have hx_1 := hP.lt (hP.l14 hd)
                    have hy_1 := hP.lt (hP.l24 hd (by omega))
                    rw [← he_1] at hy_1
                    refine ga_callF X Y (jm_next _ X.tr G t227 (L 14 d) (gc_e G L N 14 d) (N 14 d) (N 24 d) i _ (τ 1400 d) lr f_1 _ _ ht_t227 (Nat.le_trans hP.G hb_t227) (hP.r14 hd) hE_1 hj_1 hk_1 (by omega) (hf_1 i hj_1) (by omega) (by omega)) wX2_59 (ci := 12) rfl ht_t227 ⟨Nat.le_of_ble_eq_true rfl, Nat.le_of_ble_eq_true rfl⟩ ⟨(by first | decide | omega | (dsimp only; omega)), (by first | decide | omega | (dsimp only; omega))⟩ rfl (Nat.le_of_ble_eq_true rfl) dX2_plan_246 (fun v9 h9 n9 hq _ => ?_) (fun _ _ _ q _ => q.elim)
                    obtain ⟨rfl, hq2, hq3⟩ := hq
                    rw [hq2, hq3]
                    show ga Γ G _ _ _ _ 251 [(0, .ref (L 36 d)), (1, .int f), (2, .int z), (3, .int y), (4, .int (cd_plan3 τ N d f z y i)), (5, .ref t227)] (.ref (L 34 (1024 * d + i)) :: [])
                    refine gq_up (P := fun h => ga Γ G h n 3 12 251 [(0, .ref (L 36 d)), (1, .int f), (2, .int z), (3, .int y), (4, .int (cd_plan3 τ N d f z y i)), (5, .ref t227)] (.ref (L 34 (1024 * d + i)) :: [])) hP hF hb_t227 ha_t227 (fun h hP hF ht_t227 hk => ?_)
                    refine ga_cast X (ci := 9) rfl q1303 (hP.r34 hd hj_1).1 dX2_plan_251 ?_
                    refine ga_astore X [(6, .ref (L 34 (1024 * d + i))), (0, .ref (L 36 d)), (1, .int f), (2, .int z), (3, .int y), (4, .int (cd_plan3 τ N d f z y i)), (5, .ref t227)] dX2_plan_254 (by decide) rfl ?_
                    refine ga_aload X 0 dX2_plan_256 rfl ?_
                    refine ga_getN X in_X12 (ci := 9) rfl 0 (by decide) q1208 rfl (hP.r34 hd hj_1).1 rfl dX2_plan_258 ?_
                    refine ga_getN X in_X10 (ci := 8) rfl 2 (by decide) q1148 rfl (hP.r33 hd (hP.r34 hd hj_1).2.1) rfl dX2_plan_261 ?_
                    refine ga_iload_n X 4 dX2_plan_264 rfl rfl ?_
                    have J273 : ∀ (v273 : Int32), v273 = (bI ((τ 3302 (1024 * d + (N 64 (1024 * d + i)))) = y)) → ga Γ G h n 3 12 273 [(6, .ref (L 34 (1024 * d + i))), (0, .ref (L 36 d)), (1, .int f), (2, .int z), (3, .int y), (4, .int (cd_plan3 τ N d f z y i)), (5, .ref t227)] (.int v273 :: []) := by
                      intro v273 ev273
                      subst ev273
                      refine ga_istore X [(7, .int (bI ((τ 3302 (1024 * d + (N 64 (1024 * d + i)))) = y))), (6, .ref (L 34 (1024 * d + i))), (0, .ref (L 36 d)), (1, .int f), (2, .int z), (3, .int y), (4, .int (cd_plan3 τ N d f z y i)), (5, .ref t227)] dX2_plan_273 (by decide) rfl ?_
                      refine ga_iload X 6 dX2_plan_275 rfl ?_
                      refine ga_iload X 0 dX2_plan_277 rfl ?_
                      have J315 : ∀ (v315 : Int32), v315 = (if (τ 3302 (1024 * d + (N 64 (1024 * d + i)))) = y then if (τ 3300 (1024 * d + (N 64 (1024 * d + i)))) = f then if (τ 3301 (1024 * d + (N 64 (1024 * d + i)))) = z then τ 3403 (1024 * d + i) else 0 else 0 else 0) → ga Γ G h n 3 12 315 [(7, .int (bI ((τ 3302 (1024 * d + (N 64 (1024 * d + i)))) = y))), (6, .ref (L 34 (1024 * d + i))), (0, .ref (L 36 d)), (1, .int f), (2, .int z), (3, .int y), (4, .int (cd_plan3 τ N d f z y i)), (5, .ref t227)] (.int v315 :: .int (cd_plan3 τ N d f z y i) :: []) := by
                        intro v315 ev315
                        subst ev315
                        refine ga_isub X dX2_plan_315 ?_
                        refine ga_istore X [(4, .int ((cd_plan3 τ N d f z y i) - (if (τ 3302 (1024 * d + (N 64 (1024 * d + i)))) = y then if (τ 3300 (1024 * d + (N 64 (1024 * d + i)))) = f then if (τ 3301 (1024 * d + (N 64 (1024 * d + i)))) = z then τ 3403 (1024 * d + i) else 0 else 0 else 0))), (7, .int (bI ((τ 3302 (1024 * d + (N 64 (1024 * d + i)))) = y))), (6, .ref (L 34 (1024 * d + i))), (0, .ref (L 36 d)), (1, .int f), (2, .int z), (3, .int y), (5, .ref t227)] dX2_plan_316 (by decide) rfl ?_
                        refine ga_iload X 0 dX2_plan_318 rfl ?_
                        refine ga_iload X 1 dX2_plan_320 rfl ?_
                        have J358 : ∀ (v358 : Int32), v358 = (if (τ 3302 (1024 * d + (N 64 (1024 * d + i)))) = y then if (τ 3300 (1024 * d + (N 65 (1024 * d + i)))) = f then if (τ 3301 (1024 * d + (N 65 (1024 * d + i)))) = z then τ 3403 (1024 * d + i) else 0 else 0 else 0) → ga Γ G h n 3 12 358 [(4, .int ((cd_plan3 τ N d f z y i) - (if (τ 3302 (1024 * d + (N 64 (1024 * d + i)))) = y then if (τ 3300 (1024 * d + (N 64 (1024 * d + i)))) = f then if (τ 3301 (1024 * d + (N 64 (1024 * d + i)))) = z then τ 3403 (1024 * d + i) else 0 else 0 else 0))), (7, .int (bI ((τ 3302 (1024 * d + (N 64 (1024 * d + i)))) = y))), (6, .ref (L 34 (1024 * d + i))), (0, .ref (L 36 d)), (1, .int f), (2, .int z), (3, .int y), (5, .ref t227)] (.int v358 :: .int ((cd_plan3 τ N d f z y i) - (if (τ 3302 (1024 * d + (N 64 (1024 * d + i)))) = y then if (τ 3300 (1024 * d + (N 64 (1024 * d + i)))) = f then if (τ 3301 (1024 * d + (N 64 (1024 * d + i)))) = z then τ 3403 (1024 * d + i) else 0 else 0 else 0)) :: []) := by
                          intro v358 ev358
                          subst ev358
                          refine ga_iadd X dX2_plan_358 ?_
                          refine ga_istore X [(4, .int (((cd_plan3 τ N d f z y i) - (if (τ 3302 (1024 * d + (N 64 (1024 * d + i)))) = y then if (τ 3300 (1024 * d + (N 64 (1024 * d + i)))) = f then if (τ 3301 (1024 * d + (N 64 (1024 * d + i)))) = z then τ 3403 (1024 * d + i) else 0 else 0 else 0)) + (if (τ 3302 (1024 * d + (N 64 (1024 * d + i)))) = y then if (τ 3300 (1024 * d + (N 65 (1024 * d + i)))) = f then if (τ 3301 (1024 * d + (N 65 (1024 * d + i)))) = z then τ 3403 (1024 * d + i) else 0 else 0 else 0))), (7, .int (bI ((τ 3302 (1024 * d + (N 64 (1024 * d + i)))) = y))), (6, .ref (L 34 (1024 * d + i))), (0, .ref (L 36 d)), (1, .int f), (2, .int z), (3, .int y), (5, .ref t227)] dX2_plan_359 (by decide) rfl ?_
                          refine ga_goto X (tgt := 234) dX2_plan_361 (by decide) ?_
                          refine ga_sub [3, 4, 5, 6, 0, 7] rfl ?_
                          exact ih234 (i + 1) _ h n _ (by omega) (by omega) ((cd_plan3_s τ N d f z y i).symm) hP hn hF hn1 ht_t227 hl_t227
                        refine ga_ifb_eq X (tgt := 357) dX2_plan_322 (by decide) (fun c_322 => ?_) (fun c_322 => ?_)
                        · refine ga_iconst X (v := 0) dX2_plan_357 (by decide) ?_
                          exact J358 _ ((if_neg c_322).symm)
                        · refine ga_aload X 2 dX2_plan_325 rfl ?_
                          refine ga_getN X in_X12 (ci := 9) rfl 1 (by decide) q1211 rfl (hP.r34 hd hj_1).1 rfl dX2_plan_327 ?_
                          refine ga_getN X in_X10 (ci := 8) rfl 0 (by decide) q1142 rfl (hP.r33 hd (hP.r34 hd hj_1).2.2) rfl dX2_plan_330 ?_
                          refine ga_iload_n X 4 dX2_plan_333 rfl rfl ?_
                          refine ga_icmp_ne X (tgt := 357) dX2_plan_334 (by decide) (fun c_334 => ?_) (fun c_334 => ?_)
                          · refine ga_iconst X (v := 0) dX2_plan_357 (by decide) ?_
                            exact J358 _ (((if_pos c_322).trans (if_neg c_334)).symm)
                          · refine ga_aload X 2 dX2_plan_337 rfl ?_
                            refine ga_getN X in_X12 (ci := 9) rfl 1 (by decide) q1211 rfl (hP.r34 hd hj_1).1 rfl dX2_plan_339 ?_
                            refine ga_getN X in_X10 (ci := 8) rfl 1 (by decide) q1145 rfl (hP.r33 hd (hP.r34 hd hj_1).2.2) rfl dX2_plan_342 ?_
                            refine ga_iload_n X 5 dX2_plan_345 rfl rfl ?_
                            refine ga_icmp_ne X (tgt := 357) dX2_plan_346 (by decide) (fun c_346 => ?_) (fun c_346 => ?_)
                            · refine ga_iconst X (v := 0) dX2_plan_357 (by decide) ?_
                              exact J358 _ (((if_pos c_322).trans ((if_pos c_334).trans (if_neg c_346))).symm)
                            · refine ga_aload X 2 dX2_plan_349 rfl ?_
                              refine ga_getN X in_X12 (ci := 9) rfl 3 (by decide) q1216 rfl (hP.r34 hd hj_1).1 rfl dX2_plan_351 ?_
                              refine ga_goto X (tgt := 358) dX2_plan_354 (by decide) ?_
                              exact J358 _ (((if_pos c_322).trans ((if_pos c_334).trans (if_pos c_346))).symm)
                      refine ga_ifb_eq X (tgt := 314) dX2_plan_279 (by decide) (fun c_279 => ?_) (fun c_279 => ?_)
                      · refine ga_iconst X (v := 0) dX2_plan_314 (by decide) ?_
                        exact J315 _ ((if_neg c_279).symm)
                      · refine ga_aload X 1 dX2_plan_282 rfl ?_
                        refine ga_getN X in_X12 (ci := 9) rfl 0 (by decide) q1208 rfl (hP.r34 hd hj_1).1 rfl dX2_plan_284 ?_
                        refine ga_getN X in_X10 (ci := 8) rfl 0 (by decide) q1142 rfl (hP.r33 hd (hP.r34 hd hj_1).2.1) rfl dX2_plan_287 ?_
                        refine ga_iload_n X 3 dX2_plan_290 rfl rfl ?_
                        refine ga_icmp_ne X (tgt := 314) dX2_plan_291 (by decide) (fun c_291 => ?_) (fun c_291 => ?_)
                        · refine ga_iconst X (v := 0) dX2_plan_314 (by decide) ?_
                          exact J315 _ (((if_pos c_279).trans (if_neg c_291)).symm)
                        · refine ga_aload X 1 dX2_plan_294 rfl ?_
                          refine ga_getN X in_X12 (ci := 9) rfl 0 (by decide) q1208 rfl (hP.r34 hd hj_1).1 rfl dX2_plan_296 ?_
                          refine ga_getN X in_X10 (ci := 8) rfl 1 (by decide) q1145 rfl (hP.r33 hd (hP.r34 hd hj_1).2.1) rfl dX2_plan_299 ?_
                          refine ga_iload_n X 4 dX2_plan_302 rfl rfl ?_
                          refine ga_icmp_ne X (tgt := 314) dX2_plan_303 (by decide) (fun c_303 => ?_) (fun c_303 => ?_)
                          · refine ga_iconst X (v := 0) dX2_plan_314 (by decide) ?_
                            exact J315 _ (((if_pos c_279).trans ((if_pos c_291).trans (if_neg c_303))).symm)
                          · refine ga_aload X 1 dX2_plan_306 rfl ?_
                            refine ga_getN X in_X12 (ci := 9) rfl 3 (by decide) q1216 rfl (hP.r34 hd hj_1).1 rfl dX2_plan_308 ?_
                            refine ga_goto X (tgt := 315) dX2_plan_311 (by decide) ?_
                            exact J315 _ (((if_pos c_279).trans ((if_pos c_291).trans (if_pos c_303))).symm)
                    refine ga_icmp_ne X (tgt := 272) dX2_plan_265 (by decide) (fun c_265 => ?_) (fun c_265 => ?_)
                    · refine ga_iconst X (v := 0) dX2_plan_272 (by decide) ?_
                      exact J273 _ ((bI_f c_265).symm)
                    · refine ga_iconst X (v := 1) dX2_plan_268 (by decide) ?_
                      refine ga_goto X (tgt := 273) dX2_plan_269 (by decide) ?_
                      exact J273 _ ((bI_t c_265).symm)
              refine ga_sub [1, 2, 3, 4, 5, 0] rfl ?_
              exact L234 (N 14 d + 1) 0 _ h n _ (by omega) (by omega) rfl hP hn hF hn1 ht_t227 hl_t227
            · have hx_127 : i < N 11 d := c_127
              refine ga_aload X 5 dX2_plan_130 rfl ?_
              have hj_2 : i < N 11 d := by omega
              obtain ⟨f_2, hE_2, hk_2, hb_2, hf_2, he_2⟩ := hP.r21 hd (by omega)
              have hx_2 := hP.lt (hP.l11 hd)
              have hy_2 := hP.lt (hP.l21 hd (by omega))
              rw [← he_2] at hy_2
              refine ga_callF X Y (jm_next _ X.tr G t113 (L 11 d) (gc_e G L N 11 d) (N 11 d) (N 21 d) i _ (τ 1100 d) lr f_2 _ _ ht_t113 (Nat.le_trans hP.G hb_t113) (hP.r11 hd) hE_2 hj_2 hk_2 (by omega) (hf_2 i hj_2) (by omega) (by omega)) wX2_59 (ci := 12) rfl ht_t113 ⟨Nat.le_of_ble_eq_true rfl, Nat.le_of_ble_eq_true rfl⟩ ⟨(by first | decide | omega | (dsimp only; omega)), (by first | decide | omega | (dsimp only; omega))⟩ rfl (Nat.le_of_ble_eq_true rfl) dX2_plan_132 (fun v9 h9 n9 hq _ => ?_) (fun _ _ _ q _ => q.elim)
              obtain ⟨rfl, hq2, hq3⟩ := hq
              rw [hq2, hq3]
              show ga Γ G _ _ _ _ 137 [(0, .ref (L 36 d)), (1, .int f), (2, .int z), (3, .int y), (4, .int (cd_plan2 τ N d f z y i)), (5, .ref t113)] (.ref (L 31 (1024 * d + i)) :: [])
              refine gq_up (P := fun h => ga Γ G h n 2 8 137 [(0, .ref (L 36 d)), (1, .int f), (2, .int z), (3, .int y), (4, .int (cd_plan2 τ N d f z y i)), (5, .ref t113)] (.ref (L 31 (1024 * d + i)) :: [])) hP hF hb_t113 ha_t113 (fun h hP hF ht_t113 hk => ?_)
              refine ga_cast X (ci := 4) rfl q1301 (hP.r31 hd hj_2).1 dX2_plan_137 ?_
              refine ga_astore X [(6, .ref (L 31 (1024 * d + i))), (0, .ref (L 36 d)), (1, .int f), (2, .int z), (3, .int y), (4, .int (cd_plan2 τ N d f z y i)), (5, .ref t113)] dX2_plan_140 (by decide) rfl ?_
              refine ga_aload X 0 dX2_plan_142 rfl ?_
              refine ga_getN X in_X5 (ci := 4) rfl 8 (by decide) q548 rfl (hP.r31 hd hj_2).1 rfl dX2_plan_144 ?_
              have J182 : ∀ (v182 : Int32), v182 = (bI (¬ ((τ 3108 (1024 * d + i)) = 0) ∧ (((τ 3100 (1024 * d + i)) = f) ∧ (((τ 3101 (1024 * d + i)) = z) ∧ (¬ ((cd_isIn τ d i y) = 0)))))) → ga Γ G h n 2 8 182 [(6, .ref (L 31 (1024 * d + i))), (0, .ref (L 36 d)), (1, .int f), (2, .int z), (3, .int y), (4, .int (cd_plan2 τ N d f z y i)), (5, .ref t113)] (.int v182 :: []) := by
                intro v182 ev182
                subst ev182
                refine ga_istore X [(7, .int (bI (¬ ((τ 3108 (1024 * d + i)) = 0) ∧ (((τ 3100 (1024 * d + i)) = f) ∧ (((τ 3101 (1024 * d + i)) = z) ∧ (¬ ((cd_isIn τ d i y) = 0))))))), (6, .ref (L 31 (1024 * d + i))), (0, .ref (L 36 d)), (1, .int f), (2, .int z), (3, .int y), (4, .int (cd_plan2 τ N d f z y i)), (5, .ref t113)] dX2_plan_182 (by decide) rfl ?_
                refine ga_iload X 6 dX2_plan_184 rfl ?_
                refine ga_iload X 0 dX2_plan_186 rfl ?_
                have J217 : ∀ (v217 : Int32), v217 = (if ¬ ((τ 3108 (1024 * d + i)) = 0) ∧ (((τ 3100 (1024 * d + i)) = f) ∧ (((τ 3101 (1024 * d + i)) = z) ∧ (¬ ((cd_isIn τ d i y) = 0)))) then if (τ 3103 (1024 * d + i)) = 0 then τ 3105 (1024 * d + i) else -(τ 3105 (1024 * d + i)) else 0) → ga Γ G h n 2 8 217 [(7, .int (bI (¬ ((τ 3108 (1024 * d + i)) = 0) ∧ (((τ 3100 (1024 * d + i)) = f) ∧ (((τ 3101 (1024 * d + i)) = z) ∧ (¬ ((cd_isIn τ d i y) = 0))))))), (6, .ref (L 31 (1024 * d + i))), (0, .ref (L 36 d)), (1, .int f), (2, .int z), (3, .int y), (4, .int (cd_plan2 τ N d f z y i)), (5, .ref t113)] (.int v217 :: .int (cd_plan2 τ N d f z y i) :: []) := by
                  intro v217 ev217
                  subst ev217
                  refine ga_iadd X dX2_plan_217 ?_
                  refine ga_istore X [(4, .int ((cd_plan2 τ N d f z y i) + (if ¬ ((τ 3108 (1024 * d + i)) = 0) ∧ (((τ 3100 (1024 * d + i)) = f) ∧ (((τ 3101 (1024 * d + i)) = z) ∧ (¬ ((cd_isIn τ d i y) = 0)))) then if (τ 3103 (1024 * d + i)) = 0 then τ 3105 (1024 * d + i) else -(τ 3105 (1024 * d + i)) else 0))), (7, .int (bI (¬ ((τ 3108 (1024 * d + i)) = 0) ∧ (((τ 3100 (1024 * d + i)) = f) ∧ (((τ 3101 (1024 * d + i)) = z) ∧ (¬ ((cd_isIn τ d i y) = 0))))))), (6, .ref (L 31 (1024 * d + i))), (0, .ref (L 36 d)), (1, .int f), (2, .int z), (3, .int y), (5, .ref t113)] dX2_plan_218 (by decide) rfl ?_
                  refine ga_goto X (tgt := 120) dX2_plan_220 (by decide) ?_
                  refine ga_sub [3, 4, 5, 6, 0, 7] rfl ?_
                  exact ih120 (i + 1) _ h n _ (by omega) (by omega) ((cd_plan2_s τ N d f z y i).symm) hP hn hF hn1 ht_t113 hl_t113
                refine ga_ifb_ne X (tgt := 195) dX2_plan_188 (by decide) (fun c_188 => ?_) (fun c_188 => ?_)
                · refine ga_aload X 1 dX2_plan_195 rfl ?_
                  refine ga_getN X in_X5 (ci := 4) rfl 3 (by decide) q538 rfl (hP.r31 hd hj_2).1 rfl dX2_plan_197 ?_
                  refine ga_if_eq X (tgt := 212) dX2_plan_200 (by decide) (fun c_200 => ?_) (fun c_200 => ?_)
                  · refine ga_aload X 1 dX2_plan_212 rfl ?_
                    refine ga_getN X in_X5 (ci := 4) rfl 5 (by decide) q542 rfl (hP.r31 hd hj_2).1 rfl dX2_plan_214 ?_
                    exact J217 _ (((if_pos c_188).trans (if_pos c_200)).symm)
                  · refine ga_aload X 1 dX2_plan_203 rfl ?_
                    refine ga_getN X in_X5 (ci := 4) rfl 5 (by decide) q542 rfl (hP.r31 hd hj_2).1 rfl dX2_plan_205 ?_
                    refine ga_ineg X dX2_plan_208 ?_
                    refine ga_goto X (tgt := 217) dX2_plan_209 (by decide) ?_
                    exact J217 _ (((if_pos c_188).trans (if_neg c_200)).symm)
                · refine ga_iconst X (v := 0) dX2_plan_191 (by decide) ?_
                  refine ga_goto X (tgt := 217) dX2_plan_192 (by decide) ?_
                  exact J217 _ ((if_neg c_188).symm)
              refine ga_if_eq X (tgt := 181) dX2_plan_147 (by decide) (fun c_147 => ?_) (fun c_147 => ?_)
              · refine ga_iconst X (v := 0) dX2_plan_181 (by decide) ?_
                exact J182 _ ((bI_f (fun hh => hh.1 c_147)).symm)
              · refine ga_aload X 0 dX2_plan_150 rfl ?_
                refine ga_getN X in_X5 (ci := 4) rfl 0 (by decide) q531 rfl (hP.r31 hd hj_2).1 rfl dX2_plan_152 ?_
                refine ga_iload_n X 2 dX2_plan_155 rfl rfl ?_
                refine ga_icmp_ne X (tgt := 181) dX2_plan_156 (by decide) (fun c_156 => ?_) (fun c_156 => ?_)
                · refine ga_iconst X (v := 0) dX2_plan_181 (by decide) ?_
                  exact J182 _ ((bI_f (fun hh => (fun hh => c_156 hh.1) hh.2)).symm)
                · refine ga_aload X 0 dX2_plan_159 rfl ?_
                  refine ga_getN X in_X5 (ci := 4) rfl 1 (by decide) q534 rfl (hP.r31 hd hj_2).1 rfl dX2_plan_161 ?_
                  refine ga_iload_n X 3 dX2_plan_164 rfl rfl ?_
                  refine ga_icmp_ne X (tgt := 181) dX2_plan_165 (by decide) (fun c_165 => ?_) (fun c_165 => ?_)
                  · refine ga_iconst X (v := 0) dX2_plan_181 (by decide) ?_
                    exact J182 _ ((bI_f (fun hh => (fun hh => (fun hh => c_165 hh.1) hh.2) hh.2)).symm)
                  · refine ga_aload X 0 dX2_plan_168 rfl ?_
                    refine ga_iload_n X 4 dX2_plan_170 rfl rfl ?_
                    refine ga_callV X Y (cm_isIn _ X.tr G L N τ d i y hd hj_2 _ _ _ hP hn) wX2_89 (ci := 4) rfl (hP.r31 hd hj_2).1 ⟨Nat.le_of_ble_eq_true rfl, Nat.le_of_ble_eq_true rfl⟩ ⟨(by first | decide | omega | (dsimp only; omega)), (by first | decide | omega | (dsimp only; omega))⟩ rfl (Nat.le_of_ble_eq_true rfl) dX2_plan_171 (fun v9 h9 n9 hq _ => ?_) (fun _ _ _ q _ => q.elim)
                    obtain ⟨rfl, hq2, hq3⟩ := hq
                    rw [hq2, hq3]
                    refine ga_widen (k2 := 2) (n2 := 8) (by first | decide | omega | (dsimp only; omega)) (by first | decide | omega | (dsimp only; omega)) ?_
                    show ga Γ G _ _ _ _ 174 [(6, .ref (L 31 (1024 * d + i))), (0, .ref (L 36 d)), (1, .int f), (2, .int z), (3, .int y), (4, .int (cd_plan2 τ N d f z y i)), (5, .ref t113)] (.int (cd_isIn τ d i y) :: [])
                    refine ga_if_eq X (tgt := 181) dX2_plan_174 (by decide) (fun c_174 => ?_) (fun c_174 => ?_)
                    · refine ga_iconst X (v := 0) dX2_plan_181 (by decide) ?_
                      exact J182 _ ((bI_f (fun hh => (fun hh => (fun hh => (fun hh => hh c_174) hh.2) hh.2) hh.2)).symm)
                    · refine ga_iconst X (v := 1) dX2_plan_177 (by decide) ?_
                      refine ga_goto X (tgt := 182) dX2_plan_178 (by decide) ?_
                      exact J182 _ ((bI_t ⟨c_147, ⟨c_156, ⟨c_165, c_174⟩⟩⟩).symm)
        refine ga_sub [1, 2, 3, 4, 5, 0] rfl ?_
        exact L120 (N 11 d + 1) 0 _ h n _ (by omega) (by omega) rfl hP hn hF hn1 ht_t113 hl_t113
      · have hx_21 : i < N 10 d := c_21
        refine ga_aload X 5 dX2_plan_24 rfl ?_
        have hj_3 : i < N 10 d := by omega
        obtain ⟨f_3, hE_3, hk_3, hb_3, hf_3, he_3⟩ := hP.r20 hd (by omega)
        have hx_3 := hP.lt (hP.l10 hd)
        have hy_3 := hP.lt (hP.l20 hd (by omega))
        rw [← he_3] at hy_3
        refine ga_callF X Y (jm_next _ X.tr G t7 (L 10 d) (gc_e G L N 10 d) (N 10 d) (N 20 d) i _ (τ 1000 d) lr f_3 _ _ ht_t7 (Nat.le_trans hP.G hb_t7) (hP.r10 hd) hE_3 hj_3 hk_3 (by omega) (hf_3 i hj_3) (by omega) (by omega)) wX2_59 (ci := 12) rfl ht_t7 ⟨Nat.le_of_ble_eq_true rfl, Nat.le_of_ble_eq_true rfl⟩ ⟨(by first | decide | omega | (dsimp only; omega)), (by first | decide | omega | (dsimp only; omega))⟩ rfl (Nat.le_of_ble_eq_true rfl) dX2_plan_26 (fun v9 h9 n9 hq _ => ?_) (fun _ _ _ q _ => q.elim)
        obtain ⟨rfl, hq2, hq3⟩ := hq
        rw [hq2, hq3]
        show ga Γ G _ _ _ _ 31 [(0, .ref (L 36 d)), (1, .int f), (2, .int z), (3, .int y), (4, .int (cd_plan1 τ N d f z y i)), (5, .ref t7)] (.ref (L 30 (1024 * d + i)) :: [])
        refine gq_up (P := fun h => ga Γ G h n 1 4 31 [(0, .ref (L 36 d)), (1, .int f), (2, .int z), (3, .int y), (4, .int (cd_plan1 τ N d f z y i)), (5, .ref t7)] (.ref (L 30 (1024 * d + i)) :: [])) hP hF hb_t7 ha_t7 (fun h hP hF ht_t7 hk => ?_)
        refine ga_cast X (ci := 3) rfl q1300 (hP.r30 hd hj_3) dX2_plan_31 ?_
        refine ga_astore X [(6, .ref (L 30 (1024 * d + i))), (0, .ref (L 36 d)), (1, .int f), (2, .int z), (3, .int y), (4, .int (cd_plan1 τ N d f z y i)), (5, .ref t7)] dX2_plan_34 (by decide) rfl ?_
        refine ga_aload X 0 dX2_plan_36 rfl ?_
        refine ga_getN X in_X4 (ci := 3) rfl 0 (by decide) q409 rfl (hP.r30 hd hj_3) rfl dX2_plan_38 ?_
        refine ga_iload_n X 2 dX2_plan_41 rfl rfl ?_
        have J68 : ∀ (v68 : Int32), v68 = (bI (((τ 3000 (1024 * d + i)) = f) ∧ (((τ 3001 (1024 * d + i)) = z) ∧ ((τ 3002 (1024 * d + i)) = y)))) → ga Γ G h n 1 4 68 [(6, .ref (L 30 (1024 * d + i))), (0, .ref (L 36 d)), (1, .int f), (2, .int z), (3, .int y), (4, .int (cd_plan1 τ N d f z y i)), (5, .ref t7)] (.int v68 :: []) := by
          intro v68 ev68
          subst ev68
          refine ga_istore X [(7, .int (bI (((τ 3000 (1024 * d + i)) = f) ∧ (((τ 3001 (1024 * d + i)) = z) ∧ ((τ 3002 (1024 * d + i)) = y))))), (6, .ref (L 30 (1024 * d + i))), (0, .ref (L 36 d)), (1, .int f), (2, .int z), (3, .int y), (4, .int (cd_plan1 τ N d f z y i)), (5, .ref t7)] dX2_plan_68 (by decide) rfl ?_
          refine ga_iload X 6 dX2_plan_70 rfl ?_
          refine ga_iload X 0 dX2_plan_72 rfl ?_
          have J103 : ∀ (v103 : Int32), v103 = (if ((τ 3000 (1024 * d + i)) = f) ∧ (((τ 3001 (1024 * d + i)) = z) ∧ ((τ 3002 (1024 * d + i)) = y)) then if (τ 3003 (1024 * d + i)) = 0 then τ 3006 (1024 * d + i) else -(τ 3006 (1024 * d + i)) else 0) → ga Γ G h n 1 4 103 [(7, .int (bI (((τ 3000 (1024 * d + i)) = f) ∧ (((τ 3001 (1024 * d + i)) = z) ∧ ((τ 3002 (1024 * d + i)) = y))))), (6, .ref (L 30 (1024 * d + i))), (0, .ref (L 36 d)), (1, .int f), (2, .int z), (3, .int y), (4, .int (cd_plan1 τ N d f z y i)), (5, .ref t7)] (.int v103 :: .int (cd_plan1 τ N d f z y i) :: []) := by
            intro v103 ev103
            subst ev103
            refine ga_iadd X dX2_plan_103 ?_
            refine ga_istore X [(4, .int ((cd_plan1 τ N d f z y i) + (if ((τ 3000 (1024 * d + i)) = f) ∧ (((τ 3001 (1024 * d + i)) = z) ∧ ((τ 3002 (1024 * d + i)) = y)) then if (τ 3003 (1024 * d + i)) = 0 then τ 3006 (1024 * d + i) else -(τ 3006 (1024 * d + i)) else 0))), (7, .int (bI (((τ 3000 (1024 * d + i)) = f) ∧ (((τ 3001 (1024 * d + i)) = z) ∧ ((τ 3002 (1024 * d + i)) = y))))), (6, .ref (L 30 (1024 * d + i))), (0, .ref (L 36 d)), (1, .int f), (2, .int z), (3, .int y), (5, .ref t7)] dX2_plan_104 (by decide) rfl ?_
            refine ga_goto X (tgt := 14) dX2_plan_106 (by decide) ?_
            refine ga_sub [3, 4, 5, 6, 0, 7] rfl ?_
            exact ih14 (i + 1) _ h n _ (by omega) (by omega) ((cd_plan1_s τ N d f z y i).symm) hP hn hF hn1 ht_t7 hl_t7
          refine ga_ifb_ne X (tgt := 81) dX2_plan_74 (by decide) (fun c_74 => ?_) (fun c_74 => ?_)
          · refine ga_aload X 1 dX2_plan_81 rfl ?_
            refine ga_getN X in_X4 (ci := 3) rfl 3 (by decide) q419 rfl (hP.r30 hd hj_3) rfl dX2_plan_83 ?_
            refine ga_if_eq X (tgt := 98) dX2_plan_86 (by decide) (fun c_86 => ?_) (fun c_86 => ?_)
            · refine ga_aload X 1 dX2_plan_98 rfl ?_
              refine ga_getN X in_X4 (ci := 3) rfl 6 (by decide) q426 rfl (hP.r30 hd hj_3) rfl dX2_plan_100 ?_
              exact J103 _ (((if_pos c_74).trans (if_pos c_86)).symm)
            · refine ga_aload X 1 dX2_plan_89 rfl ?_
              refine ga_getN X in_X4 (ci := 3) rfl 6 (by decide) q426 rfl (hP.r30 hd hj_3) rfl dX2_plan_91 ?_
              refine ga_ineg X dX2_plan_94 ?_
              refine ga_goto X (tgt := 103) dX2_plan_95 (by decide) ?_
              exact J103 _ (((if_pos c_74).trans (if_neg c_86)).symm)
          · refine ga_iconst X (v := 0) dX2_plan_77 (by decide) ?_
            refine ga_goto X (tgt := 103) dX2_plan_78 (by decide) ?_
            exact J103 _ ((if_neg c_74).symm)
        refine ga_icmp_ne X (tgt := 67) dX2_plan_42 (by decide) (fun c_42 => ?_) (fun c_42 => ?_)
        · refine ga_iconst X (v := 0) dX2_plan_67 (by decide) ?_
          exact J68 _ ((bI_f (fun hh => c_42 hh.1)).symm)
        · refine ga_aload X 0 dX2_plan_45 rfl ?_
          refine ga_getN X in_X4 (ci := 3) rfl 1 (by decide) q412 rfl (hP.r30 hd hj_3) rfl dX2_plan_47 ?_
          refine ga_iload_n X 3 dX2_plan_50 rfl rfl ?_
          refine ga_icmp_ne X (tgt := 67) dX2_plan_51 (by decide) (fun c_51 => ?_) (fun c_51 => ?_)
          · refine ga_iconst X (v := 0) dX2_plan_67 (by decide) ?_
            exact J68 _ ((bI_f (fun hh => (fun hh => c_51 hh.1) hh.2)).symm)
          · refine ga_aload X 0 dX2_plan_54 rfl ?_
            refine ga_getN X in_X4 (ci := 3) rfl 2 (by decide) q415 rfl (hP.r30 hd hj_3) rfl dX2_plan_56 ?_
            refine ga_iload_n X 4 dX2_plan_59 rfl rfl ?_
            refine ga_icmp_ne X (tgt := 67) dX2_plan_60 (by decide) (fun c_60 => ?_) (fun c_60 => ?_)
            · refine ga_iconst X (v := 0) dX2_plan_67 (by decide) ?_
              exact J68 _ ((bI_f (fun hh => (fun hh => c_60 hh.2) hh.2)).symm)
            · refine ga_iconst X (v := 1) dX2_plan_63 (by decide) ?_
              refine ga_goto X (tgt := 68) dX2_plan_64 (by decide) ?_
              exact J68 _ ((bI_t ⟨c_42, ⟨c_51, c_60⟩⟩).symm)
  refine ga_sub [2, 3, 4, 5, 1, 0] rfl ?_
  exact L14 (N 10 d + 1) 0 _ h n _ (by omega) (by omega) rfl hP hn hF hn1 ht_t7 hl_t7
def cd_gap (τ : gm_S) (N : gc_L) (d f z y : Nat) : Int32 := if (τ 5000 (4 * (3 * (6 * d + f) + z) + y)) = 0 then 0 else (τ 4700 (4 * (3 * (6 * d + f) + z) + y)) - (cd_plan τ N d (nI f) (nI z) (nI y))
set_option maxHeartbeats 4000000 in
theorem cm_gap (l : Launch) (hl : l.stackTraces = false) (G : ga_X) (L N : gc_L) (τ : gm_S) (d f z y : Nat) (hd : d ≤ N 16 0) (hf : f < 6) (hz : z < 3) (hy : y < 4) : gq_C l G yX2_gap cX2_gap 4 (some FieldType.int) ({ frames := 4, cells := 3, slots := 12, locals := 88 } : Room) [.ref (L 36 d), .int (nI f), .int (nI z), .int (nI y)] L N τ (.int (cd_gap τ N d f z y)) := by
  refine gq_start RX2 hl rfl (by decide) (Nat.le_of_ble_eq_true rfl) (fun Γ h1 h n0 n1 n e X Y hP hn hF hn1 hn01 => ?_)
  subst e
  show ga Γ G h n 0 0 0 [(0, .ref (L 36 d)), (1, .int (nI f)), (2, .int (nI z)), (3, .int (nI y))] []
  refine ga_aload_n X 0 dX2_gap_0 rfl rfl ?_
  refine ga_get X in_X2 (ci := 1) rfl 8 (by decide) q158 rfl (hP.r36 hd) rfl dX2_gap_1 ?_
  refine ga_iload_n X 1 dX2_gap_4 rfl rfl ?_
  obtain ⟨f_1, hf_1, hv_1⟩ := hP.r48 hd
  refine ga_aald X (k := 9) f rfl (by omega) (by decide) rfl rfl hf_1 dX2_gap_5 (show va_rf (f_1 f) = .ref (L 49 (6 * d + f)) by rw [hv_1 f (by omega)]; rfl) ?_
  refine ga_iload_n X 2 dX2_gap_6 rfl rfl ?_
  obtain ⟨f_2, hf_2, hv_2⟩ := hP.r49 hd (by omega)
  refine ga_aald X (k := 7) z rfl (by omega) (by decide) rfl rfl hf_2 dX2_gap_7 (show va_rf (f_2 z) = .ref (L 50 (3 * (6 * d + f) + z)) by rw [hv_2 z (by omega)]; rfl) ?_
  refine ga_iload_n X 3 dX2_gap_8 rfl rfl ?_
  obtain ⟨f_3, hf_3, hv_3⟩ := hP.r50 hd (by omega) (by omega)
  refine ga_zald X y rfl (by omega) (by decide) hf_3 dX2_gap_9 ?_
  refine ga_st (st' := .int (τ 5000 (4 * (3 * (6 * d + f) + z) + y)) :: []) (by rw [hv_3 y (by omega)]) ?_
  refine ga_if_eq X (tgt := 34) dX2_gap_10 (by decide) (fun c_10 => ?_) (fun c_10 => ?_)
  · refine ga_iconst X (v := 0) dX2_gap_34 (by decide) ?_
    exact ga_iret X Y dX2_gap_35 (by first | decide | omega | (dsimp only; omega)) (by first | decide | omega | (dsimp only; omega)) ⟨congrArg (fun z => some (Value.int z)) (show 0 = cd_gap τ N d f z y from by unfold cd_gap; exact ((if_pos c_10)).symm), hn1, hF⟩
  · refine ga_aload_n X 0 dX2_gap_13 rfl rfl ?_
    refine ga_get X in_X2 (ci := 1) rfl 7 (by decide) q156 rfl (hP.r36 hd) rfl dX2_gap_14 ?_
    refine ga_iload_n X 1 dX2_gap_17 rfl rfl ?_
    obtain ⟨f_7, hf_7, hv_7⟩ := hP.r45 hd
    refine ga_aald X (k := 8) f rfl (by omega) (by decide) rfl rfl hf_7 dX2_gap_18 (show va_rf (f_7 f) = .ref (L 46 (6 * d + f)) by rw [hv_7 f (by omega)]; rfl) ?_
    refine ga_iload_n X 2 dX2_gap_19 rfl rfl ?_
    obtain ⟨f_8, hf_8, hv_8⟩ := hP.r46 hd (by omega)
    refine ga_aald X (k := 6) z rfl (by omega) (by decide) rfl rfl hf_8 dX2_gap_20 (show va_rf (f_8 z) = .ref (L 47 (3 * (6 * d + f) + z)) by rw [hv_8 z (by omega)]; rfl) ?_
    refine ga_iload_n X 3 dX2_gap_21 rfl rfl ?_
    obtain ⟨f_9, hf_9, hv_9⟩ := hP.r47 hd (by omega) (by omega)
    refine ga_iald X y rfl (by omega) (by decide) hf_9 dX2_gap_22 ?_
    refine ga_st (st' := .int (τ 4700 (4 * (3 * (6 * d + f) + z) + y)) :: []) (by rw [hv_9 y (by omega)]) ?_
    refine ga_aload_n X 0 dX2_gap_23 rfl rfl ?_
    refine ga_iload_n X 1 dX2_gap_24 rfl rfl ?_
    refine ga_iload_n X 2 dX2_gap_25 rfl rfl ?_
    refine ga_iload_n X 3 dX2_gap_26 rfl rfl ?_
    refine ga_callV X Y (cm_plan _ X.tr G L N τ d (nI f) (nI z) (nI y) hd _ _ _ hP hn) wX2_112 (ci := 1) rfl (hP.r36 hd) ⟨Nat.le_of_ble_eq_true rfl, Nat.le_of_ble_eq_true rfl⟩ ⟨(by first | decide | omega | (dsimp only; omega)), (by first | decide | omega | (dsimp only; omega))⟩ rfl (Nat.le_of_ble_eq_true rfl) dX2_gap_27 (fun v9 h n hq _ => ?_) (fun _ _ _ q _ => q.elim)
    obtain ⟨rfl, hq2, hq3⟩ := hq
    have hP := hP.temp (fun a ha => hq3 a (by omega))
    have hF := fun a (ha : a < n1) => (hq3 a (by omega)).trans (hF a ha)
    have hn := Nat.le_trans hn hq2
    have hn1 := Nat.le_trans hn1 hq2
    refine ga_widen (k2 := 3) (n2 := 12) (by first | decide | omega | (dsimp only; omega)) (by first | decide | omega | (dsimp only; omega)) ?_
    show ga Γ G _ _ _ _ 30 [(0, .ref (L 36 d)), (1, .int (nI f)), (2, .int (nI z)), (3, .int (nI y))] (.int (cd_plan τ N d (nI f) (nI z) (nI y)) :: .int (τ 4700 (4 * (3 * (6 * d + f) + z) + y)) :: [])
    refine ga_isub X dX2_gap_30 ?_
    refine ga_goto X (tgt := 35) dX2_gap_31 (by decide) ?_
    exact ga_iret X Y dX2_gap_35 (by first | decide | omega | (dsimp only; omega)) (by first | decide | omega | (dsimp only; omega)) ⟨congrArg (fun z => some (Value.int z)) (show ((τ 4700 (4 * (3 * (6 * d + f) + z) + y)) - (cd_plan τ N d (nI f) (nI z) (nI y))) = cd_gap τ N d f z y from by unfold cd_gap; exact ((if_neg c_10)).symm), hn1, hF⟩
def cd_gapi (τ : gm_S) (N : gc_L) (d y : Nat) (f : Nat) (s0 : Int32) : Nat → Int32
  | 0 => s0
  | i + 1 => (cd_gapi τ N d y f s0 i) + (cd_gap τ N d f i y)
theorem cd_gapi_s (τ : gm_S) (N : gc_L) (d y : Nat) (f : Nat) (s0 : Int32) (i : Nat) : cd_gapi τ N d y f s0 (i + 1) = (cd_gapi τ N d y f s0 i) + (cd_gap τ N d f i y) := rfl
def cd_gapo (τ : gm_S) (N : gc_L) (d y : Nat) : Nat → Int32
  | 0 => 0
  | k + 1 => cd_gapi τ N d y k (cd_gapo τ N d y k) 3
theorem cd_gapo_s (τ : gm_S) (N : gc_L) (d y : Nat) (k : Nat) : cd_gapo τ N d y (k + 1) = cd_gapi τ N d y k (cd_gapo τ N d y k) 3 := rfl
def cd_gapin (τ : gm_S) (N : gc_L) (d y : Nat) : Int32 := cd_gapo τ N d y 6
set_option maxHeartbeats 4000000 in
theorem cm_gapin (l : Launch) (hl : l.stackTraces = false) (G : ga_X) (L N : gc_L) (τ : gm_S) (d y : Nat) (hd : d ≤ N 16 0) (hy : y < 4) : gq_C l G yX2_gap_2 cX2_gap_2 5 (some FieldType.int) ({ frames := 5, cells := 54, slots := 216, locals := 111 } : Room) [.ref (L 36 d), .int (nI y)] L N τ (.int (cd_gapin τ N d y)) := by
  refine gq_start RX2 hl rfl (by decide) (Nat.le_of_ble_eq_true rfl) (fun Γ h1 h n0 n1 n e X Y hP hn hF hn1 hn01 => ?_)
  subst e
  show ga Γ G h n 0 0 0 [(0, .ref (L 36 d)), (1, .int (nI y))] []
  refine ga_iconst X (v := 0) dX2_gap_2_0 (by decide) ?_
  refine ga_istore_n X [(2, .int 0), (0, .ref (L 36 d)), (1, .int (nI y))] dX2_gap_2_1 rfl (by decide) rfl ?_
  refine ga_iconst X (v := 0) dX2_gap_2_2 (by decide) ?_
  refine ga_istore_n X [(3, .int 0), (2, .int 0), (0, .ref (L 36 d)), (1, .int (nI y))] dX2_gap_2_3 rfl (by decide) rfl ?_
  have L4 : ∀ (fu k : Nat) (h : ga_H) (n : Nat) (x2 : Int32) (x3 : Int32), k ≤ 6 → 6 < k + fu → x2 = (cd_gapo τ N d y k) → x3 = (nI k) → gc_P G L N (τ) n0 h → n0 ≤ n → (∀ a, a < n1 → h a = h1 a) → n1 ≤ n → ga Γ G h n (0 + k * 9) (0 + k * 36) 4 [(0, .ref (L 36 d)), (1, .int (nI y)), (2, .int x2), (3, .int x3)] ([]) := by
    intro fu
    induction fu with
    | zero => intro k h n x2 x3 hi hd; exact absurd hd (by omega)
    | succ fu ih4 =>
      intro k h n x2 x3 hi4 hd4 e2 e3 hP hn hF hn1 
      rw [e2]
      rw [e3]
      refine ga_iload_n X 3 dX2_gap_2_4 rfl rfl ?_
      refine ga_bipush X (v := 6) dX2_gap_2_5 (by decide) ?_
      refine ga_icmp_ge X (tgt := 42) dX2_gap_2_7 (by decide) (fun c_7 => ?_) (fun c_7 => ?_)
      · have hx_7 : 6 = k := Nat.le_antisymm ((nI_leI (a := 6) (by omega) (by omega)).mp c_7) hi4
        subst hx_7
        refine ga_widen (k2 := 54) (n2 := 216) (by first | decide | omega | (dsimp only; omega)) (by first | decide | omega | (dsimp only; omega)) ?_
        refine ga_iload_n X 2 dX2_gap_2_42 rfl rfl ?_
        exact ga_iret X Y dX2_gap_2_43 (by first | decide | omega | (dsimp only; omega)) (by first | decide | omega | (dsimp only; omega)) ⟨congrArg (fun z => some (Value.int z)) (show (cd_gapo τ N d y 6) = cd_gapin τ N d y from by unfold cd_gapin; exact (rfl).symm), hn1, hF⟩
      · have hx_7 : k < 6 := Nat.lt_of_not_le fun z => c_7 ((nI_leI (a := 6) (by omega) (by omega)).mpr z)
        refine ga_iconst X (v := 0) dX2_gap_2_10 (by decide) ?_
        refine ga_istore X [(4, .int 0), (0, .ref (L 36 d)), (1, .int (nI y)), (2, .int (cd_gapo τ N d y k)), (3, .int (nI k))] dX2_gap_2_11 (by decide) rfl ?_
        have L13 : ∀ (fu i : Nat) (h : ga_H) (n : Nat) (x2 : Int32) (x4 : Int32), i ≤ 3 → 3 < i + fu → x2 = (cd_gapi τ N d y k (cd_gapo τ N d y k) i) → x4 = (nI i) → gc_P G L N (τ) n0 h → n0 ≤ n → (∀ a, a < n1 → h a = h1 a) → n1 ≤ n → ga Γ G h n (0 + k * 9 + i * 3) (0 + k * 36 + i * 12) 13 [(0, .ref (L 36 d)), (1, .int (nI y)), (2, .int x2), (3, .int (nI k)), (4, .int x4)] ([]) := by
          intro fu
          induction fu with
          | zero => intro i h n x2 x4 hi hd; exact absurd hd (by omega)
          | succ fu ih13 =>
            intro i h n x2 x4 hi13 hd13 e2 e4 hP hn hF hn1 
            rw [e2]
            rw [e4]
            refine ga_iload X 4 dX2_gap_2_13 rfl ?_
            refine ga_iconst X (v := 3) dX2_gap_2_15 (by decide) ?_
            refine ga_icmp_ge X (tgt := 36) dX2_gap_2_16 (by decide) (fun c_16 => ?_) (fun c_16 => ?_)
            · have hx_16 : 3 = i := Nat.le_antisymm ((nI_leI (a := 3) (by omega) (by omega)).mp c_16) hi13
              subst hx_16
              refine ga_widen (k2 := 9 + k * 9) (n2 := 36 + k * 36) (by first | decide | omega | (dsimp only; omega)) (by first | decide | omega | (dsimp only; omega)) ?_
              refine ga_iinc X 3 [(3, .int (nI (k + 1))), (0, .ref (L 36 d)), (1, .int (nI y)), (2, .int (cd_gapi τ N d y k (cd_gapo τ N d y k) 3)), (4, .int (nI 3))] dX2_gap_2_36 rfl (nI_1 k) (by decide) rfl ?_
              refine ga_goto X (tgt := 4) dX2_gap_2_39 (by decide) ?_
              refine ga_sub [1, 2, 3, 0] rfl ?_
              refine ga_widen (k2 := 0 + (k + 1) * 9) (n2 := 0 + (k + 1) * 36) (by first | decide | omega | (dsimp only; omega)) (by first | decide | omega | (dsimp only; omega)) ?_
              exact ih4 (k + 1) h n _ _ (by omega) (by omega) ((cd_gapo_s τ N d y k).symm) rfl hP hn hF hn1 
            · have hx_16 : i < 3 := Nat.lt_of_not_le fun z => c_16 ((nI_leI (a := 3) (by omega) (by omega)).mpr z)
              refine ga_iload_n X 2 dX2_gap_2_19 rfl rfl ?_
              refine ga_aload_n X 0 dX2_gap_2_20 rfl rfl ?_
              refine ga_iload_n X 3 dX2_gap_2_21 rfl rfl ?_
              refine ga_iload X 4 dX2_gap_2_22 rfl ?_
              refine ga_iload_n X 1 dX2_gap_2_24 rfl rfl ?_
              refine ga_callV X Y (cm_gap _ X.tr G L N τ d k i y hd (by omega) (by omega) (by omega) _ _ _ hP hn) wX2_116 (ci := 1) rfl (hP.r36 hd) ⟨Nat.le_of_ble_eq_true rfl, Nat.le_of_ble_eq_true rfl⟩ ⟨(by first | decide | omega | (dsimp only; omega)), (by first | decide | omega | (dsimp only; omega))⟩ rfl (Nat.le_of_ble_eq_true rfl) dX2_gap_2_25 (fun v9 h n hq _ => ?_) (fun _ _ _ q _ => q.elim)
              obtain ⟨rfl, hq2, hq3⟩ := hq
              have hP := hP.temp (fun a ha => hq3 a (by omega))
              have hF := fun a (ha : a < n1) => (hq3 a (by omega)).trans (hF a ha)
              have hn := Nat.le_trans hn hq2
              have hn1 := Nat.le_trans hn1 hq2
              refine ga_widen (k2 := 3 + k * 9 + i * 3) (n2 := 12 + k * 36 + i * 12) (by first | decide | omega | (dsimp only; omega)) (by first | decide | omega | (dsimp only; omega)) ?_
              show ga Γ G _ _ _ _ 28 [(0, .ref (L 36 d)), (1, .int (nI y)), (2, .int (cd_gapi τ N d y k (cd_gapo τ N d y k) i)), (3, .int (nI k)), (4, .int (nI i))] (.int (cd_gap τ N d k i y) :: .int (cd_gapi τ N d y k (cd_gapo τ N d y k) i) :: [])
              refine ga_iadd X dX2_gap_2_28 ?_
              refine ga_istore_n X [(2, .int ((cd_gapi τ N d y k (cd_gapo τ N d y k) i) + (cd_gap τ N d k i y))), (0, .ref (L 36 d)), (1, .int (nI y)), (3, .int (nI k)), (4, .int (nI i))] dX2_gap_2_29 rfl (by decide) rfl ?_
              refine ga_iinc X 4 [(4, .int (nI (i + 1))), (2, .int ((cd_gapi τ N d y k (cd_gapo τ N d y k) i) + (cd_gap τ N d k i y))), (0, .ref (L 36 d)), (1, .int (nI y)), (3, .int (nI k))] dX2_gap_2_30 rfl (nI_1 i) (by decide) rfl ?_
              refine ga_goto X (tgt := 13) dX2_gap_2_33 (by decide) ?_
              refine ga_sub [2, 3, 1, 4, 0] rfl ?_
              refine ga_widen (k2 := 0 + k * 9 + (i + 1) * 3) (n2 := 0 + k * 36 + (i + 1) * 12) (by first | decide | omega | (dsimp only; omega)) (by first | decide | omega | (dsimp only; omega)) ?_
              exact ih13 (i + 1) h n _ _ (by omega) (by omega) ((cd_gapi_s τ N d y k (cd_gapo τ N d y k) i).symm) rfl hP hn hF hn1 
        refine ga_sub [1, 2, 3, 4, 0] rfl ?_
        refine ga_widen (k2 := 0 + k * 9 + 0 * 3) (n2 := 0 + k * 36 + 0 * 12) (by first | decide | omega | (dsimp only; omega)) (by first | decide | omega | (dsimp only; omega)) ?_
        exact L13 (3 + 1) 0 h n _ _ (by omega) (by omega) rfl rfl hP hn hF hn1 
  refine ga_sub [2, 3, 1, 0] rfl ?_
  refine ga_widen (k2 := 0 + 0 * 9) (n2 := 0 + 0 * 36) (by first | decide | omega | (dsimp only; omega)) (by first | decide | omega | (dsimp only; omega)) ?_
  exact L4 (6 + 1) 0 h n _ _ (by omega) (by omega) rfl rfl hP hn hF hn1 
