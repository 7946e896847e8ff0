set_option maxRecDepth 100000
def cd_billi (τ : gm_S) (N : gc_L) (d f : Nat) (y : Nat) (g p s0 : Int32) : Nat → Int32
  | 0 => s0
  | i + 1 => (cd_billi τ N d f y g p s0 i) + ((cd_gap τ N d f i y) * (if ¬ (g = 0) ∧ (¬ ((cd_gap τ N d f i y) = 0) ∧ ((bI (¬ (0 ≤ (cd_gap τ N d f i y)))) = (bI (¬ (0 ≤ g))))) then p else τ 4400 (3 * (4 * d + y) + i)))
theorem cd_billi_s (τ : gm_S) (N : gc_L) (d f : Nat) (y : Nat) (g p s0 : Int32) (i : Nat) : cd_billi τ N d f y g p s0 (i + 1) = (cd_billi τ N d f y g p s0 i) + ((cd_gap τ N d f i y) * (if ¬ (g = 0) ∧ (¬ ((cd_gap τ N d f i y) = 0) ∧ ((bI (¬ (0 ≤ (cd_gap τ N d f i y)))) = (bI (¬ (0 ≤ g))))) then p else τ 4400 (3 * (4 * d + y) + i))) := rfl
def cd_billk (τ : gm_S) (N : gc_L) (d f : Nat) (y : Nat) (g p s0 : Int32) (u : Nat → Int32) : Nat → Int32
  | 0 => s0
  | i + 1 => (cd_billk τ N d f y g p s0 u i) + (if 0 ≤ g then -(if (τ 3500 (1024 * d + i)) = (nI f) then (u i) * p else 0) else if (τ 3500 (1024 * d + i)) = (nI f) then (u i) * p else 0)
theorem cd_billk_s (τ : gm_S) (N : gc_L) (d f : Nat) (y : Nat) (g p s0 : Int32) (u : Nat → Int32) (i : Nat) : cd_billk τ N d f y g p s0 u (i + 1) = (cd_billk τ N d f y g p s0 u i) + (if 0 ≤ g then -(if (τ 3500 (1024 * d + i)) = (nI f) then (u i) * p else 0) else if (τ 3500 (1024 * d + i)) = (nI f) then (u i) * p else 0) := rfl
def cd_billo (τ : gm_S) (N : gc_L) (d f : Nat) : Nat → Int32
  | 0 => cd_tradesOf τ N d (nI f)
  | k + 1 => cd_billk τ N d f k (cd_gapin τ N d k) (cd_gapPrice τ N d k) (cd_billi τ N d f k (cd_gapin τ N d k) (cd_gapPrice τ N d k) (cd_billo τ N d f k) 3) (cd_used τ N d k) (N 15 d)
theorem cd_billo_s (τ : gm_S) (N : gc_L) (d f : Nat) (k : Nat) : cd_billo τ N d f (k + 1) = cd_billk τ N d f k (cd_gapin τ N d k) (cd_gapPrice τ N d k) (cd_billi τ N d f k (cd_gapin τ N d k) (cd_gapPrice τ N d k) (cd_billo τ N d f k) 3) (cd_used τ N d k) (N 15 d) := rfl
def cd_billOf (τ : gm_S) (N : gc_L) (d f : Nat) : Int32 := cd_billo τ N d f 4
set_option maxHeartbeats 4000000 in
theorem cm_billOf (l : Launch) (hl : l.stackTraces = false) (G : ga_X) (L N : gc_L) (τ : gm_S) (d f : Nat) (hd : d ≤ N 16 0) (hf : f < 6) (hr : N 40 d ≠ 0) (hV : gc_V N τ) : gq_C l G yX1_billOf cX1_billOf 9 (some FieldType.int) ({ frames := 8, cells := 912, slots := 3856, locals := 192 } : Room) [.ref (L 36 d), .int (nI f)] L N τ (.int (cd_billOf τ N d f)) := by
  refine gq_start RX1 hl rfl (by decide) (Nat.le_of_ble_eq_true rfl) (fun Γ h1 h n0 n1 n e X Y hP hn hF hn1 hn01 => ?_)
  subst e
  have hb15 := hP.n15 d
  show ga Γ G h n 0 0 0 [(0, .ref (L 36 d)), (1, .int (nI f))] []
  refine ga_aload_n X 0 dX1_billOf_0 rfl rfl ?_
  refine ga_iload_n X 1 dX1_billOf_1 rfl rfl ?_
  refine ga_callS X Y (cm_tradesOf _ X.tr G L N τ d (nI f) hd hr hV _ _ _ hP hn) wX1_410 ⟨Nat.le_of_ble_eq_true rfl, Nat.le_of_ble_eq_true rfl⟩ ⟨(by first | decide | omega | (dsimp only; omega)), (by first | decide | omega | (dsimp only; omega))⟩ rfl (Nat.le_of_ble_eq_true rfl) dX1_billOf_2 (fun v9 h n hq _ => ?_) (fun _ _ _ q _ => q.elim)
  obtain ⟨rfl, hq2, hq3⟩ := hq
  have hP := hP.temp (fun a ha => hq3 a (by omega))
  have hF := fun a (ha : a < n1) => (hq3 a (by omega)).trans (hF a ha)
  have hn := Nat.le_trans hn hq2
  have hn1 := Nat.le_trans hn1 hq2
  refine ga_widen (k2 := 4) (n2 := 16) (by first | decide | omega | (dsimp only; omega)) (by first | decide | omega | (dsimp only; omega)) ?_
  show ga Γ G _ _ _ _ 5 [(0, .ref (L 36 d)), (1, .int (nI f))] (.int (cd_tradesOf τ N d (nI f)) :: [])
  refine ga_istore_n X [(2, .int (cd_tradesOf τ N d (nI f))), (0, .ref (L 36 d)), (1, .int (nI f))] dX1_billOf_5 rfl (by decide) rfl ?_
  refine ga_iconst X (v := 0) dX1_billOf_6 (by decide) ?_
  refine ga_istore_n X [(3, .int 0), (2, .int (cd_tradesOf τ N d (nI f))), (0, .ref (L 36 d)), (1, .int (nI f))] dX1_billOf_7 rfl (by decide) rfl ?_
  have L8 : ∀ (fu k : Nat) (h : ga_H) (n : Nat) (x2 : Int32) (x3 : Int32), k ≤ 4 → 4 < k + fu → x2 = (cd_billo τ N d f k) → x3 = (nI k) → gc_P G L N (τ) n0 h → n0 ≤ n → (∀ a, a < n1 → h a = h1 a) → n1 ≤ n → ga Γ G h n (4 + k * 227) (16 + k * 960) 8 [(0, .ref (L 36 d)), (1, .int (nI f)), (2, .int x2), (3, .int x3)] ([]) := by
    intro fu
    induction fu with
    | zero => intro k h n x2 x3 hi hd; exact absurd hd (by omega)
    | succ fu ih8 =>
      intro k h n x2 x3 hi8 hd8 e2 e3 hP hn hF hn1 
      rw [e2]
      rw [e3]
      refine ga_iload_n X 3 dX1_billOf_8 rfl rfl ?_
      refine ga_iconst X (v := 4) dX1_billOf_9 (by decide) ?_
      refine ga_icmp_ge X (tgt := 201) dX1_billOf_10 (by decide) (fun c_10 => ?_) (fun c_10 => ?_)
      · have hx_10 : 4 = k := Nat.le_antisymm ((nI_leI (a := 4) (by omega) (by omega)).mp c_10) hi8
        subst hx_10
        refine ga_widen (k2 := 912) (n2 := 3856) (by first | decide | omega | (dsimp only; omega)) (by first | decide | omega | (dsimp only; omega)) ?_
        refine ga_iload_n X 2 dX1_billOf_201 rfl rfl ?_
        exact ga_iret X Y dX1_billOf_202 (by first | decide | omega | (dsimp only; omega)) (by first | decide | omega | (dsimp only; omega)) ⟨congrArg (fun z => some (Value.int z)) (show (cd_billo τ N d f 4) = cd_billOf τ N d f from by unfold cd_billOf; exact (rfl).symm), hn1, hF⟩
      · have hx_10 : k < 4 := Nat.lt_of_not_le fun z => c_10 ((nI_leI (a := 4) (by omega) (by omega)).mpr z)
        refine ga_aload_n X 0 dX1_billOf_13 rfl rfl ?_
        refine ga_iload_n X 3 dX1_billOf_14 rfl rfl ?_
        refine ga_callV X Y (cm_gapin _ X.tr G L N τ d k hd (by omega) _ _ _ hP hn) wX1_246 (ci := 1) rfl (hP.r36 hd) ⟨Nat.le_of_ble_eq_true rfl, Nat.le_of_ble_eq_true rfl⟩ ⟨(by first | decide | omega | (dsimp only; omega)), (by first | decide | omega | (dsimp only; omega))⟩ rfl (Nat.le_of_ble_eq_true rfl) dX1_billOf_15 (fun v9 h n hq _ => ?_) (fun _ _ _ q _ => q.elim)
        obtain ⟨rfl, hq2, hq3⟩ := hq
        have hP := hP.temp (fun a ha => hq3 a (by omega))
        have hF := fun a (ha : a < n1) => (hq3 a (by omega)).trans (hF a ha)
        have hn := Nat.le_trans hn hq2
        have hn1 := Nat.le_trans hn1 hq2
        refine ga_widen (k2 := 58 + k * 227) (n2 := 232 + k * 960) (by first | decide | omega | (dsimp only; omega)) (by first | decide | omega | (dsimp only; omega)) ?_
        show ga Γ G _ _ _ _ 18 [(0, .ref (L 36 d)), (1, .int (nI f)), (2, .int (cd_billo τ N d f k)), (3, .int (nI k))] (.int (cd_gapin τ N d k) :: [])
        refine ga_istore X [(4, .int (cd_gapin τ N d k)), (0, .ref (L 36 d)), (1, .int (nI f)), (2, .int (cd_billo τ N d f k)), (3, .int (nI k))] dX1_billOf_18 (by decide) rfl ?_
        refine ga_aload_n X 1 dX1_billOf_20 rfl rfl ?_
        refine ga_iload_n X 4 dX1_billOf_21 rfl rfl ?_
        refine ga_callS X Y (cm_gapPrice _ X.tr G L N τ d k hd (by omega) hr _ _ _ hP hn) wX1_249 ⟨Nat.le_of_ble_eq_true rfl, Nat.le_of_ble_eq_true rfl⟩ ⟨(by first | decide | omega | (dsimp only; omega)), (by first | decide | omega | (dsimp only; omega))⟩ rfl (Nat.le_of_ble_eq_true rfl) dX1_billOf_22 (fun v9 h n hq _ => ?_) (fun _ _ _ q _ => q.elim)
        obtain ⟨rfl, hq2, hq3⟩ := hq
        have hP := hP.temp (fun a ha => hq3 a (by omega))
        have hF := fun a (ha : a < n1) => (hq3 a (by omega)).trans (hF a ha)
        have hn := Nat.le_trans hn hq2
        have hn1 := Nat.le_trans hn1 hq2
        refine ga_widen (k2 := 167 + k * 227) (n2 := 694 + k * 960) (by first | decide | omega | (dsimp only; omega)) (by first | decide | omega | (dsimp only; omega)) ?_
        show ga Γ G _ _ _ _ 25 [(4, .int (cd_gapin τ N d k)), (0, .ref (L 36 d)), (1, .int (nI f)), (2, .int (cd_billo τ N d f k)), (3, .int (nI k))] (.int (cd_gapPrice τ N d k) :: [])
        refine ga_istore X [(5, .int (cd_gapPrice τ N d k)), (4, .int (cd_gapin τ N d k)), (0, .ref (L 36 d)), (1, .int (nI f)), (2, .int (cd_billo τ N d f k)), (3, .int (nI k))] dX1_billOf_25 (by decide) rfl ?_
        refine ga_iconst X (v := 0) dX1_billOf_27 (by decide) ?_
        refine ga_istore X [(6, .int 0), (5, .int (cd_gapPrice τ N d k)), (4, .int (cd_gapin τ N d k)), (0, .ref (L 36 d)), (1, .int (nI f)), (2, .int (cd_billo τ N d f k)), (3, .int (nI k))] dX1_billOf_28 (by decide) rfl ?_
        have L30 : ∀ (fu i : Nat) (h : ga_H) (n : Nat) (x2 : Int32) (x6 : Int32), i ≤ 3 → 3 < i + fu → x2 = (cd_billi τ N d f k (cd_gapin τ N d k) (cd_gapPrice τ N d k) (cd_billo τ N d f k) i) → x6 = (nI i) → gc_P G L N (τ) n0 h → n0 ≤ n → (∀ a, a < n1 → h a = h1 a) → n1 ≤ n → ga Γ G h n (167 + k * 227 + i * 3) (694 + k * 960 + i * 12) 30 [(0, .ref (L 36 d)), (1, .int (nI f)), (2, .int x2), (3, .int (nI k)), (4, .int (cd_gapin τ N d k)), (5, .int (cd_gapPrice τ N d k)), (6, .int x6)] ([]) := by
          intro fu
          induction fu with
          | zero => intro i h n x2 x6 hi hd; exact absurd hd (by omega)
          | succ fu ih30 =>
            intro i h n x2 x6 hi30 hd30 e2 e6 hP hn hF hn1 
            rw [e2]
            rw [e6]
            refine ga_iload X 6 dX1_billOf_30 rfl ?_
            refine ga_iconst X (v := 3) dX1_billOf_32 (by decide) ?_
            refine ga_icmp_ge X (tgt := 120) dX1_billOf_33 (by decide) (fun c_33 => ?_) (fun c_33 => ?_)
            · have hx_33 : 3 = i := Nat.le_antisymm ((nI_leI (a := 3) (by omega) (by omega)).mp c_33) hi30
              subst hx_33
              refine ga_widen (k2 := 176 + k * 227) (n2 := 730 + k * 960) (by first | decide | omega | (dsimp only; omega)) (by first | decide | omega | (dsimp only; omega)) ?_
              refine ga_aload_n X 0 dX1_billOf_120 rfl rfl ?_
              refine ga_iload_n X 3 dX1_billOf_121 rfl rfl ?_
              refine ga_callS X Y (cm_used _ X.tr G L N τ d k hd (by omega) _ _ _ hP hn) wX1_394 ⟨Nat.le_of_ble_eq_true rfl, Nat.le_of_ble_eq_true rfl⟩ ⟨(by first | decide | omega | (dsimp only; omega)), (by first | decide | omega | (dsimp only; omega))⟩ rfl (Nat.le_of_ble_eq_true rfl) dX1_billOf_122 (fun v9 h n hq _ => ?_) (fun _ _ _ q _ => q.elim)
              obtain ⟨t122, rfl, hb9, hl_t122, ht_t122, hq2, hq3⟩ := hq
              have hP := hP.temp (fun a ha => hq3 a (by omega))
              have hF := fun a (ha : a < n1) => (hq3 a (by omega)).trans (hF a ha)
              have ha_t122 : n1 ≤ t122 := Nat.le_trans hn1 hb9
              have hb_t122 : n0 ≤ t122 := Nat.le_trans hn hb9
              have hn := Nat.le_trans hn hq2
              have hn1 := Nat.le_trans hn1 hq2
              refine ga_widen (k2 := 231 + k * 227) (n2 := 976 + k * 960) (by first | decide | omega | (dsimp only; omega)) (by first | decide | omega | (dsimp only; omega)) ?_
              show ga Γ G _ _ _ _ 125 [(0, .ref (L 36 d)), (1, .int (nI f)), (2, .int (cd_billi τ N d f k (cd_gapin τ N d k) (cd_gapPrice τ N d k) (cd_billo τ N d f k) 3)), (3, .int (nI k)), (4, .int (cd_gapin τ N d k)), (5, .int (cd_gapPrice τ N d k)), (6, .int (nI 3))] (.ref t122 :: [])
              refine ga_astore X [(6, .ref t122), (0, .ref (L 36 d)), (1, .int (nI f)), (2, .int (cd_billi τ N d f k (cd_gapin τ N d k) (cd_gapPrice τ N d k) (cd_billo τ N d f k) 3)), (3, .int (nI k)), (4, .int (cd_gapin τ N d k)), (5, .int (cd_gapPrice τ N d k))] dX1_billOf_125 (by decide) rfl ?_
              refine ga_iconst X (v := 0) dX1_billOf_127 (by decide) ?_
              refine ga_istore X [(7, .int 0), (6, .ref t122), (0, .ref (L 36 d)), (1, .int (nI f)), (2, .int (cd_billi τ N d f k (cd_gapin τ N d k) (cd_gapPrice τ N d k) (cd_billo τ N d f k) 3)), (3, .int (nI k)), (4, .int (cd_gapin τ N d k)), (5, .int (cd_gapPrice τ N d k))] dX1_billOf_128 (by decide) rfl ?_
              have L130 : ∀ (fu i : Nat) (h : ga_H) (n : Nat) (x2 : Int32) (x7 : Int32), i ≤ N 15 d → N 15 d < i + fu → x2 = (cd_billk τ N d f k (cd_gapin τ N d k) (cd_gapPrice τ N d k) (cd_billi τ N d f k (cd_gapin τ N d k) (cd_gapPrice τ N d k) (cd_billo τ N d f k) 3) (cd_used τ N d k) i) → x7 = (nI i) → gc_P G L N (τ) n0 h → n0 ≤ n → (∀ a, a < n1 → h a = h1 a) → n1 ≤ n → h t122 = some (ga_I G (N 15 d) (cd_used τ N d k)) → t122 < n → ga Γ G h n (231 + k * 227) (976 + k * 960) 130 [(0, .ref (L 36 d)), (1, .int (nI f)), (2, .int x2), (3, .int (nI k)), (4, .int (cd_gapin τ N d k)), (5, .int (cd_gapPrice τ N d k)), (6, .ref t122), (7, .int x7)] ([]) := by
                intro fu
                induction fu with
                | zero => intro i h n x2 x7 hi hd; exact absurd hd (by omega)
                | succ fu ih130 =>
                  intro i h n x2 x7 hi130 hd130 e2 e7 hP hn hF hn1 ht_t122 hl_t122
                  rw [e2]
                  rw [e7]
                  refine ga_iload X 7 dX1_billOf_130 rfl ?_
                  refine ga_aload X 6 dX1_billOf_132 rfl ?_
                  refine ga_alen X 0 rfl (rfl : nI (N 15 d) = _) ht_t122 dX1_billOf_134 ?_
                  refine ga_icmp_ge X (tgt := 195) dX1_billOf_135 (by decide) (fun c_135 => ?_) (fun c_135 => ?_)
                  · have hx_135 : N 15 d = i := Nat.le_antisymm ((nI_leI (a := N 15 d) (by omega) (by omega)).mp c_135) hi130
                    subst hx_135
                    refine ga_iinc X 3 [(3, .int (nI (k + 1))), (0, .ref (L 36 d)), (1, .int (nI f)), (2, .int (cd_billk τ N d f k (cd_gapin τ N d k) (cd_gapPrice τ N d k) (cd_billi τ N d f k (cd_gapin τ N d k) (cd_gapPrice τ N d k) (cd_billo τ N d f k) 3) (cd_used τ N d k) (N 15 d))), (4, .int (cd_gapin τ N d k)), (5, .int (cd_gapPrice τ N d k)), (6, .ref t122), (7, .int (nI (N 15 d)))] dX1_billOf_195 rfl (nI_1 k) (by decide) rfl ?_
                    refine ga_goto X (tgt := 8) dX1_billOf_198 (by decide) ?_
                    refine ga_sub [1, 2, 3, 0] rfl ?_
                    refine ga_widen (k2 := 4 + (k + 1) * 227) (n2 := 16 + (k + 1) * 960) (by first | decide | omega | (dsimp only; omega)) (by first | decide | omega | (dsimp only; omega)) ?_
                    exact ih8 (k + 1) h n _ _ (by omega) (by omega) ((cd_billo_s τ N d f k).symm) rfl hP hn hF hn1 
                  · have hx_135 : i < N 15 d := Nat.lt_of_not_le fun z => c_135 ((nI_leI (a := N 15 d) (by omega) (by omega)).mpr z)
                    refine ga_aload_n X 0 dX1_billOf_138 rfl rfl ?_
                    refine ga_getN X in_X2 (ci := 1) rfl 5 (by decide) q154 rfl (hP.r36 hd) rfl dX1_billOf_139 ?_
                    refine ga_iload X 7 dX1_billOf_142 rfl ?_
                    have hj_1 : i < N 15 d := (by omega)
                    obtain ⟨f_1, hE_1, hk_1, hb_1, hf_1, he_1⟩ := hP.r25 hd (by omega)
                    refine ga_callF X Y (jm_get _ X.tr G (L 15 d) (gc_e G L N 15 d) (N 15 d) (N 25 d) i _ (τ 1500 d) f_1 _ _ (hP.r15 hd) hE_1 hj_1 hk_1 (by omega) (hf_1 i hj_1)) wX1_91 (ci := 11) rfl (hP.r15 hd) ⟨Nat.le_of_ble_eq_true rfl, Nat.le_of_ble_eq_true rfl⟩ ⟨(by first | decide | omega | (dsimp only; omega)), (by first | decide | omega | (dsimp only; omega))⟩ rfl (Nat.le_of_ble_eq_true rfl) dX1_billOf_144 (fun v9 h9 n9 hq _ => ?_) (fun _ _ _ q _ => q.elim)
                    obtain ⟨rfl, hq2, hq3⟩ := hq
                    rw [hq2, hq3]
                    show ga Γ G _ _ _ _ 149 [(0, .ref (L 36 d)), (1, .int (nI f)), (2, .int (cd_billk τ N d f k (cd_gapin τ N d k) (cd_gapPrice τ N d k) (cd_billi τ N d f k (cd_gapin τ N d k) (cd_gapPrice τ N d k) (cd_billo τ N d f k) 3) (cd_used τ N d k) i)), (3, .int (nI k)), (4, .int (cd_gapin τ N d k)), (5, .int (cd_gapPrice τ N d k)), (6, .ref t122), (7, .int (nI i))] (.ref (L 35 (1024 * d + i)) :: [])
                    refine ga_cast X (ci := 10) rfl q1241 (hP.r35 hd hj_1) dX1_billOf_149 ?_
                    refine ga_getN X in_X13 (ci := 10) rfl 0 (by decide) q1248 rfl (hP.r35 hd hj_1) rfl dX1_billOf_152 ?_
                    refine ga_iload_n X 1 dX1_billOf_155 rfl rfl ?_
                    have J171 : ∀ (v171 : Int32), v171 = (if (τ 3500 (1024 * d + i)) = (nI f) then ((cd_used τ N d k) i) * (cd_gapPrice τ N d k) else 0) → ga Γ G h n (231 + k * 227) (976 + k * 960) 171 [(0, .ref (L 36 d)), (1, .int (nI f)), (2, .int (cd_billk τ N d f k (cd_gapin τ N d k) (cd_gapPrice τ N d k) (cd_billi τ N d f k (cd_gapin τ N d k) (cd_gapPrice τ N d k) (cd_billo τ N d f k) 3) (cd_used τ N d k) i)), (3, .int (nI k)), (4, .int (cd_gapin τ N d k)), (5, .int (cd_gapPrice τ N d k)), (6, .ref t122), (7, .int (nI i))] (.int v171 :: []) := by
                      intro v171 ev171
                      subst ev171
                      refine ga_istore X [(8, .int (if (τ 3500 (1024 * d + i)) = (nI f) then ((cd_used τ N d k) i) * (cd_gapPrice τ N d k) else 0)), (0, .ref (L 36 d)), (1, .int (nI f)), (2, .int (cd_billk τ N d f k (cd_gapin τ N d k) (cd_gapPrice τ N d k) (cd_billi τ N d f k (cd_gapin τ N d k) (cd_gapPrice τ N d k) (cd_billo τ N d f k) 3) (cd_used τ N d k) i)), (3, .int (nI k)), (4, .int (cd_gapin τ N d k)), (5, .int (cd_gapPrice τ N d k)), (6, .ref t122), (7, .int (nI i))] dX1_billOf_171 (by decide) rfl ?_
                      refine ga_iload_n X 3 dX1_billOf_173 rfl rfl ?_
                      refine ga_iload X 5 dX1_billOf_174 rfl ?_
                      have J187 : ∀ (v187 : Int32), v187 = (if 0 ≤ (cd_gapin τ N d k) then -(if (τ 3500 (1024 * d + i)) = (nI f) then ((cd_used τ N d k) i) * (cd_gapPrice τ N d k) else 0) else if (τ 3500 (1024 * d + i)) = (nI f) then ((cd_used τ N d k) i) * (cd_gapPrice τ N d k) else 0) → ga Γ G h n (231 + k * 227) (976 + k * 960) 187 [(8, .int (if (τ 3500 (1024 * d + i)) = (nI f) then ((cd_used τ N d k) i) * (cd_gapPrice τ N d k) else 0)), (0, .ref (L 36 d)), (1, .int (nI f)), (2, .int (cd_billk τ N d f k (cd_gapin τ N d k) (cd_gapPrice τ N d k) (cd_billi τ N d f k (cd_gapin τ N d k) (cd_gapPrice τ N d k) (cd_billo τ N d f k) 3) (cd_used τ N d k) i)), (3, .int (nI k)), (4, .int (cd_gapin τ N d k)), (5, .int (cd_gapPrice τ N d k)), (6, .ref t122), (7, .int (nI i))] (.int v187 :: .int (cd_billk τ N d f k (cd_gapin τ N d k) (cd_gapPrice τ N d k) (cd_billi τ N d f k (cd_gapin τ N d k) (cd_gapPrice τ N d k) (cd_billo τ N d f k) 3) (cd_used τ N d k) i) :: []) := by
                        intro v187 ev187
                        subst ev187
                        refine ga_iadd X dX1_billOf_187 ?_
                        refine ga_istore_n X [(2, .int ((cd_billk τ N d f k (cd_gapin τ N d k) (cd_gapPrice τ N d k) (cd_billi τ N d f k (cd_gapin τ N d k) (cd_gapPrice τ N d k) (cd_billo τ N d f k) 3) (cd_used τ N d k) i) + (if 0 ≤ (cd_gapin τ N d k) then -(if (τ 3500 (1024 * d + i)) = (nI f) then ((cd_used τ N d k) i) * (cd_gapPrice τ N d k) else 0) else if (τ 3500 (1024 * d + i)) = (nI f) then ((cd_used τ N d k) i) * (cd_gapPrice τ N d k) else 0))), (8, .int (if (τ 3500 (1024 * d + i)) = (nI f) then ((cd_used τ N d k) i) * (cd_gapPrice τ N d k) else 0)), (0, .ref (L 36 d)), (1, .int (nI f)), (3, .int (nI k)), (4, .int (cd_gapin τ N d k)), (5, .int (cd_gapPrice τ N d k)), (6, .ref t122), (7, .int (nI i))] dX1_billOf_188 rfl (by decide) rfl ?_
                        refine ga_iinc X 8 [(7, .int (nI (i + 1))), (2, .int ((cd_billk τ N d f k (cd_gapin τ N d k) (cd_gapPrice τ N d k) (cd_billi τ N d f k (cd_gapin τ N d k) (cd_gapPrice τ N d k) (cd_billo τ N d f k) 3) (cd_used τ N d k) i) + (if 0 ≤ (cd_gapin τ N d k) then -(if (τ 3500 (1024 * d + i)) = (nI f) then ((cd_used τ N d k) i) * (cd_gapPrice τ N d k) else 0) else if (τ 3500 (1024 * d + i)) = (nI f) then ((cd_used τ N d k) i) * (cd_gapPrice τ N d k) else 0))), (8, .int (if (τ 3500 (1024 * d + i)) = (nI f) then ((cd_used τ N d k) i) * (cd_gapPrice τ N d k) else 0)), (0, .ref (L 36 d)), (1, .int (nI f)), (3, .int (nI k)), (4, .int (cd_gapin τ N d k)), (5, .int (cd_gapPrice τ N d k)), (6, .ref t122)] dX1_billOf_189 rfl (nI_1 i) (by decide) rfl ?_
                        refine ga_goto X (tgt := 130) dX1_billOf_192 (by decide) ?_
                        refine ga_sub [3, 4, 1, 5, 6, 7, 8, 0] rfl ?_
                        exact ih130 (i + 1) h n _ _ (by omega) (by omega) ((cd_billk_s τ N d f k (cd_gapin τ N d k) (cd_gapPrice τ N d k) (cd_billi τ N d f k (cd_gapin τ N d k) (cd_gapPrice τ N d k) (cd_billo τ N d f k) 3) (cd_used τ N d k) i).symm) rfl hP hn hF hn1 ht_t122 hl_t122
                      refine ga_if_ge X (tgt := 184) dX1_billOf_176 (by decide) (fun c_176 => ?_) (fun c_176 => ?_)
                      · refine ga_iload X 0 dX1_billOf_184 rfl ?_
                        refine ga_ineg X dX1_billOf_186 ?_
                        exact J187 _ ((if_pos c_176).symm)
                      · refine ga_iload X 0 dX1_billOf_179 rfl ?_
                        refine ga_goto X (tgt := 187) dX1_billOf_181 (by decide) ?_
                        exact J187 _ ((if_neg c_176).symm)
                    refine ga_icmp_ne X (tgt := 170) dX1_billOf_156 (by decide) (fun c_156 => ?_) (fun c_156 => ?_)
                    · refine ga_iconst X (v := 0) dX1_billOf_170 (by decide) ?_
                      exact J171 _ ((if_neg c_156).symm)
                    · refine ga_aload X 6 dX1_billOf_159 rfl ?_
                      refine ga_iload X 7 dX1_billOf_161 rfl ?_
                      refine ga_iald X i rfl (by omega) (by omega) ht_t122 dX1_billOf_163 ?_
                      refine ga_iload X 5 dX1_billOf_164 rfl ?_
                      refine ga_imul X dX1_billOf_166 ?_
                      refine ga_goto X (tgt := 171) dX1_billOf_167 (by decide) ?_
                      exact J171 _ ((if_pos c_156).symm)
              refine ga_sub [2, 3, 4, 5, 6, 7, 1, 0] rfl ?_
              exact L130 (N 15 d + 1) 0 h n _ _ (by omega) (by omega) rfl rfl hP hn hF hn1 ht_t122 hl_t122
            · have hx_33 : i < 3 := Nat.lt_of_not_le fun z => c_33 ((nI_leI (a := 3) (by omega) (by omega)).mpr z)
              refine ga_aload_n X 0 dX1_billOf_36 rfl rfl ?_
              refine ga_iload_n X 1 dX1_billOf_37 rfl rfl ?_
              refine ga_iload X 6 dX1_billOf_38 rfl ?_
              refine ga_iload_n X 3 dX1_billOf_40 rfl rfl ?_
              refine ga_callV X Y (cm_gap _ X.tr G L N τ d f i k hd (by omega) (by omega) (by omega) _ _ _ hP hn) wX1_172 (ci := 1) rfl (hP.r36 hd) ⟨Nat.le_of_ble_eq_true rfl, Nat.le_of_ble_eq_true rfl⟩ ⟨(by first | decide | omega | (dsimp only; omega)), (by first | decide | omega | (dsimp only; omega))⟩ rfl (Nat.le_of_ble_eq_true rfl) dX1_billOf_41 (fun v9 h n hq _ => ?_) (fun _ _ _ q _ => q.elim)
              obtain ⟨rfl, hq2, hq3⟩ := hq
              have hP := hP.temp (fun a ha => hq3 a (by omega))
              have hF := fun a (ha : a < n1) => (hq3 a (by omega)).trans (hF a ha)
              have hn := Nat.le_trans hn hq2
              have hn1 := Nat.le_trans hn1 hq2
              refine ga_widen (k2 := 170 + k * 227 + i * 3) (n2 := 706 + k * 960 + i * 12) (by first | decide | omega | (dsimp only; omega)) (by first | decide | omega | (dsimp only; omega)) ?_
              show ga Γ G _ _ _ _ 44 [(0, .ref (L 36 d)), (1, .int (nI f)), (2, .int (cd_billi τ N d f k (cd_gapin τ N d k) (cd_gapPrice τ N d k) (cd_billo τ N d f k) i)), (3, .int (nI k)), (4, .int (cd_gapin τ N d k)), (5, .int (cd_gapPrice τ N d k)), (6, .int (nI i))] (.int (cd_gap τ N d f i k) :: [])
              refine ga_istore X [(7, .int (cd_gap τ N d f i k)), (0, .ref (L 36 d)), (1, .int (nI f)), (2, .int (cd_billi τ N d f k (cd_gapin τ N d k) (cd_gapPrice τ N d k) (cd_billo τ N d f k) i)), (3, .int (nI k)), (4, .int (cd_gapin τ N d k)), (5, .int (cd_gapPrice τ N d k)), (6, .int (nI i))] dX1_billOf_44 (by decide) rfl ?_
              refine ga_iload X 5 dX1_billOf_46 rfl ?_
              have J84 : ∀ (v84 : Int32), v84 = (bI (¬ ((cd_gapin τ N d k) = 0) ∧ (¬ ((cd_gap τ N d f i k) = 0) ∧ ((bI (¬ (0 ≤ (cd_gap τ N d f i k)))) = (bI (¬ (0 ≤ (cd_gapin τ N d k)))))))) → ga Γ G h n (170 + k * 227 + i * 3) (706 + k * 960 + i * 12) 84 [(7, .int (cd_gap τ N d f i k)), (0, .ref (L 36 d)), (1, .int (nI f)), (2, .int (cd_billi τ N d f k (cd_gapin τ N d k) (cd_gapPrice τ N d k) (cd_billo τ N d f k) i)), (3, .int (nI k)), (4, .int (cd_gapin τ N d k)), (5, .int (cd_gapPrice τ N d k)), (6, .int (nI i))] (.int v84 :: []) := by
                intro v84 ev84
                subst ev84
                refine ga_istore X [(8, .int (bI (¬ ((cd_gapin τ N d k) = 0) ∧ (¬ ((cd_gap τ N d f i k) = 0) ∧ ((bI (¬ (0 ≤ (cd_gap τ N d f i k)))) = (bI (¬ (0 ≤ (cd_gapin τ N d k))))))))), (7, .int (cd_gap τ N d f i k)), (0, .ref (L 36 d)), (1, .int (nI f)), (2, .int (cd_billi τ N d f k (cd_gapin τ N d k) (cd_gapPrice τ N d k) (cd_billo τ N d f k) i)), (3, .int (nI k)), (4, .int (cd_gapin τ N d k)), (5, .int (cd_gapPrice τ N d k)), (6, .int (nI i))] dX1_billOf_84 (by decide) rfl ?_
                refine ga_iload_n X 4 dX1_billOf_86 rfl rfl ?_
                refine ga_iload X 1 dX1_billOf_87 rfl ?_
                refine ga_iload X 0 dX1_billOf_89 rfl ?_
                have J111 : ∀ (v111 : Int32), v111 = (if ¬ ((cd_gapin τ N d k) = 0) ∧ (¬ ((cd_gap τ N d f i k) = 0) ∧ ((bI (¬ (0 ≤ (cd_gap τ N d f i k)))) = (bI (¬ (0 ≤ (cd_gapin τ N d k)))))) then cd_gapPrice τ N d k else τ 4400 (3 * (4 * d + k) + i)) → ga Γ G h n (170 + k * 227 + i * 3) (706 + k * 960 + i * 12) 111 [(8, .int (bI (¬ ((cd_gapin τ N d k) = 0) ∧ (¬ ((cd_gap τ N d f i k) = 0) ∧ ((bI (¬ (0 ≤ (cd_gap τ N d f i k)))) = (bI (¬ (0 ≤ (cd_gapin τ N d k))))))))), (7, .int (cd_gap τ N d f i k)), (0, .ref (L 36 d)), (1, .int (nI f)), (2, .int (cd_billi τ N d f k (cd_gapin τ N d k) (cd_gapPrice τ N d k) (cd_billo τ N d f k) i)), (3, .int (nI k)), (4, .int (cd_gapin τ N d k)), (5, .int (cd_gapPrice τ N d k)), (6, .int (nI i))] (.int v111 :: .int (cd_gap τ N d f i k) :: .int (cd_billi τ N d f k (cd_gapin τ N d k) (cd_gapPrice τ N d k) (cd_billo τ N d f k) i) :: []) := by
                  intro v111 ev111
                  subst ev111
                  refine ga_imul X dX1_billOf_111 ?_
                  refine ga_iadd X dX1_billOf_112 ?_
                  refine ga_istore_n X [(2, .int ((cd_billi τ N d f k (cd_gapin τ N d k) (cd_gapPrice τ N d k) (cd_billo τ N d f k) i) + ((cd_gap τ N d f i k) * (if ¬ ((cd_gapin τ N d k) = 0) ∧ (¬ ((cd_gap τ N d f i k) = 0) ∧ ((bI (¬ (0 ≤ (cd_gap τ N d f i k)))) = (bI (¬ (0 ≤ (cd_gapin τ N d k)))))) then cd_gapPrice τ N d k else τ 4400 (3 * (4 * d + k) + i))))), (8, .int (bI (¬ ((cd_gapin τ N d k) = 0) ∧ (¬ ((cd_gap τ N d f i k) = 0) ∧ ((bI (¬ (0 ≤ (cd_gap τ N d f i k)))) = (bI (¬ (0 ≤ (cd_gapin τ N d k))))))))), (7, .int (cd_gap τ N d f i k)), (0, .ref (L 36 d)), (1, .int (nI f)), (3, .int (nI k)), (4, .int (cd_gapin τ N d k)), (5, .int (cd_gapPrice τ N d k)), (6, .int (nI i))] dX1_billOf_113 rfl (by decide) rfl ?_
                  refine ga_iinc X 8 [(6, .int (nI (i + 1))), (2, .int ((cd_billi τ N d f k (cd_gapin τ N d k) (cd_gapPrice τ N d k) (cd_billo τ N d f k) i) + ((cd_gap τ N d f i k) * (if ¬ ((cd_gapin τ N d k) = 0) ∧ (¬ ((cd_gap τ N d f i k) = 0) ∧ ((bI (¬ (0 ≤ (cd_gap τ N d f i k)))) = (bI (¬ (0 ≤ (cd_gapin τ N d k)))))) then cd_gapPrice τ N d k else τ 4400 (3 * (4 * d + k) + i))))), (8, .int (bI (¬ ((cd_gapin τ N d k) = 0) ∧ (¬ ((cd_gap τ N d f i k) = 0) ∧ ((bI (¬ (0 ≤ (cd_gap τ N d f i k)))) = (bI (¬ (0 ≤ (cd_gapin τ N d k))))))))), (7, .int (cd_gap τ N d f i k)), (0, .ref (L 36 d)), (1, .int (nI f)), (3, .int (nI k)), (4, .int (cd_gapin τ N d k)), (5, .int (cd_gapPrice τ N d k))] dX1_billOf_114 rfl (nI_1 i) (by decide) rfl ?_
                  refine ga_goto X (tgt := 30) dX1_billOf_117 (by decide) ?_
                  refine ga_sub [4, 5, 1, 6, 7, 8, 0] rfl ?_
                  refine ga_widen (k2 := 167 + k * 227 + (i + 1) * 3) (n2 := 694 + k * 960 + (i + 1) * 12) (by first | decide | omega | (dsimp only; omega)) (by first | decide | omega | (dsimp only; omega)) ?_
                  exact ih30 (i + 1) h n _ _ (by omega) (by omega) ((cd_billi_s τ N d f k (cd_gapin τ N d k) (cd_gapPrice τ N d k) (cd_billo τ N d f k) i).symm) rfl hP hn hF hn1 
                refine ga_ifb_eq X (tgt := 99) dX1_billOf_91 (by decide) (fun c_91 => ?_) (fun c_91 => ?_)
                · refine ga_aload_n X 2 dX1_billOf_99 rfl rfl ?_
                  refine ga_getN X in_X2 (ci := 1) rfl 6 (by decide) q155 rfl (hP.r36 hd) rfl dX1_billOf_100 ?_
                  refine ga_st (st' := .ref (L 40 d) :: .int (cd_gap τ N d f i k) :: .int (cd_billi τ N d f k (cd_gapin τ N d k) (cd_gapPrice τ N d k) (cd_billo τ N d f k) i) :: []) (by rw [if_neg hr]) ?_
                  refine ga_getN X in_X8 (ci := 7) rfl 1 (by decide) q1014 rfl (hP.r40 hd hr) rfl dX1_billOf_103 ?_
                  refine ga_iload_n X 5 dX1_billOf_106 rfl rfl ?_
                  obtain ⟨f_4, hf_4, hv_4⟩ := hP.r43 hd hr
                  refine ga_aald X (k := 6) k rfl (by omega) (by decide) rfl rfl hf_4 dX1_billOf_107 (show va_rf (f_4 k) = .ref (L 44 (4 * d + k)) by rw [hv_4 k (by omega)]; rfl) ?_
                  refine ga_iload X 8 dX1_billOf_108 rfl ?_
                  obtain ⟨f_5, hf_5, hv_5⟩ := hP.r44 hd hr (by omega)
                  refine ga_iald X i rfl (by omega) (by decide) hf_5 dX1_billOf_110 ?_
                  refine ga_st (st' := .int (τ 4400 (3 * (4 * d + k) + i)) :: .int (cd_gap τ N d f i k) :: .int (cd_billi τ N d f k (cd_gapin τ N d k) (cd_gapPrice τ N d k) (cd_billo τ N d f k) i) :: []) (by rw [hv_5 i (by omega)]) ?_
                  exact J111 _ ((if_neg c_91).symm)
                · refine ga_iload X 7 dX1_billOf_94 rfl ?_
                  refine ga_goto X (tgt := 111) dX1_billOf_96 (by decide) ?_
                  exact J111 _ ((if_pos c_91).symm)
              refine ga_if_eq X (tgt := 83) dX1_billOf_48 (by decide) (fun c_48 => ?_) (fun c_48 => ?_)
              · refine ga_iconst X (v := 0) dX1_billOf_83 (by decide) ?_
                exact J84 _ ((bI_f (fun hh => hh.1 c_48)).symm)
              · refine ga_iload X 0 dX1_billOf_51 rfl ?_
                refine ga_if_eq X (tgt := 83) dX1_billOf_53 (by decide) (fun c_53 => ?_) (fun c_53 => ?_)
                · refine ga_iconst X (v := 0) dX1_billOf_83 (by decide) ?_
                  exact J84 _ ((bI_f (fun hh => (fun hh => hh.1 c_53) hh.2)).symm)
                · refine ga_iload X 0 dX1_billOf_56 rfl ?_
                  have J66 : ∀ (v66 : Int32), v66 = (bI (¬ (0 ≤ (cd_gap τ N d f i k)))) → ga Γ G h n (170 + k * 227 + i * 3) (706 + k * 960 + i * 12) 66 [(7, .int (cd_gap τ N d f i k)), (0, .ref (L 36 d)), (1, .int (nI f)), (2, .int (cd_billi τ N d f k (cd_gapin τ N d k) (cd_gapPrice τ N d k) (cd_billo τ N d f k) i)), (3, .int (nI k)), (4, .int (cd_gapin τ N d k)), (5, .int (cd_gapPrice τ N d k)), (6, .int (nI i))] (.int v66 :: []) := by
                    intro v66 ev66
                    subst ev66
                    refine ga_iload X 5 dX1_billOf_66 rfl ?_
                    have J76 : ∀ (v76 : Int32), v76 = (bI (¬ (0 ≤ (cd_gapin τ N d k)))) → ga Γ G h n (170 + k * 227 + i * 3) (706 + k * 960 + i * 12) 76 [(7, .int (cd_gap τ N d f i k)), (0, .ref (L 36 d)), (1, .int (nI f)), (2, .int (cd_billi τ N d f k (cd_gapin τ N d k) (cd_gapPrice τ N d k) (cd_billo τ N d f k) i)), (3, .int (nI k)), (4, .int (cd_gapin τ N d k)), (5, .int (cd_gapPrice τ N d k)), (6, .int (nI i))] (.int v76 :: .int (bI (¬ (0 ≤ (cd_gap τ N d f i k)))) :: []) := by
                      intro v76 ev76
                      subst ev76
                      refine ga_icmp_ne X (tgt := 83) dX1_billOf_76 (by decide) (fun c_76 => ?_) (fun c_76 => ?_)
                      · refine ga_iconst X (v := 0) dX1_billOf_83 (by decide) ?_
                        exact J84 _ ((bI_f (fun hh => (fun hh => c_76 hh.2) hh.2)).symm)
                      · refine ga_iconst X (v := 1) dX1_billOf_79 (by decide) ?_
                        refine ga_goto X (tgt := 84) dX1_billOf_80 (by decide) ?_
                        exact J84 _ ((bI_t ⟨c_48, ⟨c_53, c_76⟩⟩).symm)
                    refine ga_if_ge X (tgt := 75) dX1_billOf_68 (by decide) (fun c_68 => ?_) (fun c_68 => ?_)
                    · refine ga_iconst X (v := 0) dX1_billOf_75 (by decide) ?_
                      exact J76 _ ((bI_f (fun hh => hh c_68)).symm)
                    · refine ga_iconst X (v := 1) dX1_billOf_71 (by decide) ?_
                      refine ga_goto X (tgt := 76) dX1_billOf_72 (by decide) ?_
                      exact J76 _ ((bI_t c_68).symm)
                  refine ga_if_ge X (tgt := 65) dX1_billOf_58 (by decide) (fun c_58 => ?_) (fun c_58 => ?_)
                  · refine ga_iconst X (v := 0) dX1_billOf_65 (by decide) ?_
                    exact J66 _ ((bI_f (fun hh => hh c_58)).symm)
                  · refine ga_iconst X (v := 1) dX1_billOf_61 (by decide) ?_
                    refine ga_goto X (tgt := 66) dX1_billOf_62 (by decide) ?_
                    exact J66 _ ((bI_t c_58).symm)
        refine ga_sub [3, 4, 5, 6, 2, 1, 0] rfl ?_
        refine ga_widen (k2 := 167 + k * 227 + 0 * 3) (n2 := 694 + k * 960 + 0 * 12) (by first | decide | omega | (dsimp only; omega)) (by first | decide | omega | (dsimp only; omega)) ?_
        exact L30 (3 + 1) 0 h n _ _ (by omega) (by omega) rfl rfl hP hn hF hn1 
  refine ga_sub [2, 3, 1, 0] rfl ?_
  refine ga_widen (k2 := 4 + 0 * 227) (n2 := 16 + 0 * 960) (by first | decide | omega | (dsimp only; omega)) (by first | decide | omega | (dsimp only; omega)) ?_
  exact L8 (4 + 1) 0 h n _ _ (by omega) (by omega) rfl rfl hP hn hF hn1 
def cd_gain1 (τ : gm_S) (d j : Nat) : Nat → Int32
  | 0 => 0
  | i + 1 => (cd_gain1 τ d j i) + (if (cd_isIn τ d j (nI i)) = 0 then 0 else (τ 4400 (3 * (4 * d + i) + (cx (τ 3101 (1024 * d + j))))) - (τ 3104 (1024 * d + j)))
theorem cd_gain1_s (τ : gm_S) (d j : Nat) (i : Nat) : cd_gain1 τ d j (i + 1) = (cd_gain1 τ d j i) + (if (cd_isIn τ d j (nI i)) = 0 then 0 else (τ 4400 (3 * (4 * d + i) + (cx (τ 3101 (1024 * d + j))))) - (τ 3104 (1024 * d + j))) := rfl
def cd_gain (τ : gm_S) (d j : Nat) : Int32 := if (τ 3103 (1024 * d + j)) = 0 then cd_gain1 τ d j 4 else -(cd_gain1 τ d j 4)
set_option maxHeartbeats 4000000 in
theorem cm_gain (l : Launch) (hl : l.stackTraces = false) (G : ga_X) (L N : gc_L) (τ : gm_S) (d j : Nat) (hd : d ≤ N 16 0) (hj : j < N 11 d) (hr : N 40 d ≠ 0) (hV : gc_V N τ) : gh_C l G yX5_gain cX5_gain 4 (some FieldType.int) ({ frames := 1, cells := 0, slots := 0, locals := 21 } : Room) [.ref (L 31 (1024 * d + j)), .ref (L 43 d)] L N τ (some (.int (cd_gain τ d j))) := by
  refine gh_start RX5 hl rfl (by decide) (Nat.le_of_ble_eq_true rfl) (fun Γ h n0 n e X Y hP hn => ?_)
  subst e
  show ga Γ G h n 0 0 0 [(0, .ref (L 31 (1024 * d + j))), (1, .ref (L 43 d))] []
  refine ga_iconst X (v := 0) dX5_gain_0 (by decide) ?_
  refine ga_istore_n X [(2, .int 0), (0, .ref (L 31 (1024 * d + j))), (1, .ref (L 43 d))] dX5_gain_1 rfl (by decide) rfl ?_
  refine ga_iconst X (v := 0) dX5_gain_2 (by decide) ?_
  refine ga_istore_n X [(3, .int 0), (2, .int 0), (0, .ref (L 31 (1024 * d + j))), (1, .ref (L 43 d))] dX5_gain_3 rfl (by decide) rfl ?_
  have L4 : ∀ (fu i : Nat) (x2 : Int32) (x3 : Int32), i ≤ 4 → 4 < i + fu → x2 = (cd_gain1 τ d j i) → x3 = (nI i) → ga Γ G h n 0 0 4 [(0, .ref (L 31 (1024 * d + j))), (1, .ref (L 43 d)), (2, .int x2), (3, .int x3)] ([]) := by
    intro fu
    induction fu with
    | zero => intro i x2 x3 hi hd; exact absurd hd (by omega)
    | succ fu ih4 =>
      intro i x2 x3 hi4 hd4 e2 e3
      rw [e2]
      rw [e3]
      refine ga_iload_n X 3 dX5_gain_4 rfl rfl ?_
      refine ga_iconst X (v := 4) dX5_gain_5 (by decide) ?_
      refine ga_icmp_ge X (tgt := 43) dX5_gain_6 (by decide) (fun c_6 => ?_) (fun c_6 => ?_)
      · have hx_6 : 4 = i := Nat.le_antisymm ((nI_leI (a := 4) (by omega) (by omega)).mp c_6) hi4
        subst hx_6
        refine ga_aload_n X 0 dX5_gain_43 rfl rfl ?_
        refine ga_get X in_X5 (ci := 4) rfl 3 (by decide) q537 rfl (hP.r31 hd hj).1 rfl dX5_gain_44 ?_
        have J56 : ∀ (v56 : Int32), v56 = (if (τ 3103 (1024 * d + j)) = 0 then cd_gain1 τ d j 4 else -(cd_gain1 τ d j 4)) → ga Γ G h n 0 0 56 [(0, .ref (L 31 (1024 * d + j))), (1, .ref (L 43 d)), (2, .int (cd_gain1 τ d j 4)), (3, .int (nI 4))] (.int v56 :: []) := by
          intro v56 ev56
          subst ev56
          exact ga_iret X Y dX5_gain_56 (by first | decide | omega | (dsimp only; omega)) (by first | decide | omega | (dsimp only; omega)) ⟨congrArg (fun z => some (Value.int z)) (show (if (τ 3103 (1024 * d + j)) = 0 then cd_gain1 τ d j 4 else -(cd_gain1 τ d j 4)) = cd_gain τ d j from by unfold cd_gain; exact (rfl).symm), rfl, rfl⟩
        refine ga_if_eq X (tgt := 55) dX5_gain_47 (by decide) (fun c_47 => ?_) (fun c_47 => ?_)
        · refine ga_iload_n X 2 dX5_gain_55 rfl rfl ?_
          exact J56 _ ((if_pos c_47).symm)
        · refine ga_iload_n X 2 dX5_gain_50 rfl rfl ?_
          refine ga_ineg X dX5_gain_51 ?_
          refine ga_goto X (tgt := 56) dX5_gain_52 (by decide) ?_
          exact J56 _ ((if_neg c_47).symm)
      · have hx_6 : i < 4 := Nat.lt_of_not_le fun z => c_6 ((nI_leI (a := 4) (by omega) (by omega)).mpr z)
        refine ga_iload_n X 2 dX5_gain_9 rfl rfl ?_
        refine ga_aload_n X 0 dX5_gain_10 rfl rfl ?_
        refine ga_iload_n X 3 dX5_gain_11 rfl rfl ?_
        refine ga_callV X Y (cm_isIn _ X.tr G L N τ d j (nI i) hd hj _ _ _ hP hn) wX5_37 (ci := 4) rfl (hP.r31 hd hj).1 ⟨Nat.le_of_ble_eq_true rfl, Nat.le_of_ble_eq_true rfl⟩ ⟨(by first | decide | omega | (dsimp only; omega)), (by first | decide | omega | (dsimp only; omega))⟩ rfl (Nat.le_of_ble_eq_true rfl) dX5_gain_12 (fun v9 h9 n9 hq _ => ?_) (fun _ _ _ q _ => q.elim)
        obtain ⟨rfl, hq2, hq3⟩ := hq
        rw [hq2, hq3]
        refine ga_widen (k2 := 0) (n2 := 0) (by first | decide | omega | (dsimp only; omega)) (by first | decide | omega | (dsimp only; omega)) ?_
        show ga Γ G _ _ _ _ 15 [(0, .ref (L 31 (1024 * d + j))), (1, .ref (L 43 d)), (2, .int (cd_gain1 τ d j i)), (3, .int (nI i))] (.int (cd_isIn τ d j (nI i)) :: .int (cd_gain1 τ d j i) :: [])
        have J35 : ∀ (v35 : Int32), v35 = (if (cd_isIn τ d j (nI i)) = 0 then 0 else (τ 4400 (3 * (4 * d + i) + (cx (τ 3101 (1024 * d + j))))) - (τ 3104 (1024 * d + j))) → ga Γ G h n 0 0 35 [(0, .ref (L 31 (1024 * d + j))), (1, .ref (L 43 d)), (2, .int (cd_gain1 τ d j i)), (3, .int (nI i))] (.int v35 :: .int (cd_gain1 τ d j i) :: []) := by
          intro v35 ev35
          subst ev35
          refine ga_iadd X dX5_gain_35 ?_
          refine ga_istore_n X [(2, .int ((cd_gain1 τ d j i) + (if (cd_isIn τ d j (nI i)) = 0 then 0 else (τ 4400 (3 * (4 * d + i) + (cx (τ 3101 (1024 * d + j))))) - (τ 3104 (1024 * d + j))))), (0, .ref (L 31 (1024 * d + j))), (1, .ref (L 43 d)), (3, .int (nI i))] dX5_gain_36 rfl (by decide) rfl ?_
          refine ga_iinc X 3 [(3, .int (nI (i + 1))), (2, .int ((cd_gain1 τ d j i) + (if (cd_isIn τ d j (nI i)) = 0 then 0 else (τ 4400 (3 * (4 * d + i) + (cx (τ 3101 (1024 * d + j))))) - (τ 3104 (1024 * d + j))))), (0, .ref (L 31 (1024 * d + j))), (1, .ref (L 43 d))] dX5_gain_37 rfl (nI_1 i) (by decide) rfl ?_
          refine ga_goto X (tgt := 4) dX5_gain_40 (by decide) ?_
          refine ga_sub [2, 3, 1, 0] rfl ?_
          exact ih4 (i + 1) _ _ (by omega) (by omega) ((cd_gain1_s τ d j i).symm) rfl
        refine ga_if_eq X (tgt := 34) dX5_gain_15 (by decide) (fun c_15 => ?_) (fun c_15 => ?_)
        · refine ga_iconst X (v := 0) dX5_gain_34 (by decide) ?_
          exact J35 _ ((if_pos c_15).symm)
        · refine ga_aload_n X 1 dX5_gain_18 rfl rfl ?_
          refine ga_iload_n X 3 dX5_gain_19 rfl rfl ?_
          obtain ⟨f_5, hf_5, hv_5⟩ := hP.r43 hd hr
          refine ga_aald X (k := 6) i rfl (by omega) (by decide) rfl rfl hf_5 dX5_gain_20 (show va_rf (f_5 i) = .ref (L 44 (4 * d + i)) by rw [hv_5 i (by omega)]; rfl) ?_
          refine ga_aload_n X 0 dX5_gain_21 rfl rfl ?_
          refine ga_get X in_X5 (ci := 4) rfl 1 (by decide) q533 rfl (hP.r31 hd hj).1 rfl dX5_gain_22 ?_
          have rg_6 := hV.r3101 hd hj
          have rl_6 := cx_lt rg_6 (m := 3) (by decide) (by decide)
          obtain ⟨f_7, hf_7, hv_7⟩ := hP.r44 hd hr (by omega)
          refine ga_iald X (cx (τ 3101 (1024 * d + j))) (cx_e rg_6) (by omega) (by decide) hf_7 dX5_gain_25 ?_
          refine ga_st (st' := .int (τ 4400 (3 * (4 * d + i) + (cx (τ 3101 (1024 * d + j))))) :: .int (cd_gain1 τ d j i) :: []) (by rw [hv_7 (cx (τ 3101 (1024 * d + j))) (by omega)]) ?_
          have rg_8 := hV.r3101 hd hj
          have rl_8 := cx_lt rg_8 (m := 3) (by decide) (by decide)
          refine ga_aload_n X 0 dX5_gain_26 rfl rfl ?_
          refine ga_get X in_X5 (ci := 4) rfl 4 (by decide) q540 rfl (hP.r31 hd hj).1 rfl dX5_gain_27 ?_
          refine ga_isub X dX5_gain_30 ?_
          refine ga_goto X (tgt := 35) dX5_gain_31 (by decide) ?_
          exact J35 _ ((if_neg c_15).symm)
  refine ga_sub [2, 3, 1, 0] rfl ?_
  exact L4 (4 + 1) 0 _ _ (by omega) (by omega) rfl rfl
def cd_worth (τ : gm_S) (d j : Nat) : Int32 := if (τ 3103 (1024 * d + j)) = 0 then -(((τ 3104 (1024 * d + j)) * (τ 3105 (1024 * d + j))) * (jf_bc (τ 3102 (1024 * d + j)))) else ((τ 3104 (1024 * d + j)) * (τ 3105 (1024 * d + j))) * (jf_bc (τ 3102 (1024 * d + j)))
set_option maxHeartbeats 4000000 in
theorem cm_worth (l : Launch) (hl : l.stackTraces = false) (G : ga_X) (L N : gc_L) (τ : gm_S) (d j : Nat) (hd : d ≤ N 16 0) (hj : j < N 11 d) : gh_C l G yX5_worth cX5_worth 2 (some FieldType.int) ({ frames := 1, cells := 0, slots := 0, locals := 20 } : Room) [.ref (L 31 (1024 * d + j))] L N τ (some (.int (cd_worth τ d j))) := by
  refine gh_start RX5 hl rfl (by decide) (Nat.le_of_ble_eq_true rfl) (fun Γ h n0 n e X Y hP hn => ?_)
  subst e
  show ga Γ G h n 0 0 0 [(0, .ref (L 31 (1024 * d + j)))] []
  refine ga_aload_n X 0 dX5_worth_0 rfl rfl ?_
  refine ga_get X in_X5 (ci := 4) rfl 4 (by decide) q540 rfl (hP.r31 hd hj).1 rfl dX5_worth_1 ?_
  refine ga_aload_n X 0 dX5_worth_4 rfl rfl ?_
  refine ga_get X in_X5 (ci := 4) rfl 5 (by decide) q541 rfl (hP.r31 hd hj).1 rfl dX5_worth_5 ?_
  refine ga_imul X dX5_worth_8 ?_
  refine ga_aload_n X 0 dX5_worth_9 rfl rfl ?_
  refine ga_get X in_X5 (ci := 4) rfl 2 (by decide) q536 rfl (hP.r31 hd hj).1 rfl dX5_worth_10 ?_
  refine ga_callS X Y (jm_bc _ X.tr G (τ 3102 (1024 * d + j)) _ _) wX5_41 ⟨Nat.le_of_ble_eq_true rfl, Nat.le_of_ble_eq_true rfl⟩ ⟨(by first | decide | omega | (dsimp only; omega)), (by first | decide | omega | (dsimp only; omega))⟩ rfl (Nat.le_of_ble_eq_true rfl) dX5_worth_13 (fun v9 h9 n9 hq _ => ?_) (fun _ _ _ q _ => q.elim)
  obtain ⟨rfl, hq2, hq3⟩ := hq
  rw [hq2, hq3]
  refine ga_widen (k2 := 0) (n2 := 0) (by first | decide | omega | (dsimp only; omega)) (by first | decide | omega | (dsimp only; omega)) ?_
  show ga Γ G _ _ _ _ 16 [(0, .ref (L 31 (1024 * d + j)))] (.int (jf_bc (τ 3102 (1024 * d + j))) :: .int ((τ 3104 (1024 * d + j)) * (τ 3105 (1024 * d + j))) :: [])
  refine ga_imul X dX5_worth_16 ?_
  refine ga_istore_n X [(1, .int (((τ 3104 (1024 * d + j)) * (τ 3105 (1024 * d + j))) * (jf_bc (τ 3102 (1024 * d + j))))), (0, .ref (L 31 (1024 * d + j)))] dX5_worth_17 rfl (by decide) rfl ?_
  refine ga_aload_n X 1 dX5_worth_18 rfl rfl ?_
  refine ga_get X in_X5 (ci := 4) rfl 3 (by decide) q537 rfl (hP.r31 hd hj).1 rfl dX5_worth_19 ?_
  have J31 : ∀ (v31 : Int32), v31 = (if (τ 3103 (1024 * d + j)) = 0 then -(((τ 3104 (1024 * d + j)) * (τ 3105 (1024 * d + j))) * (jf_bc (τ 3102 (1024 * d + j)))) else ((τ 3104 (1024 * d + j)) * (τ 3105 (1024 * d + j))) * (jf_bc (τ 3102 (1024 * d + j)))) → ga Γ G h n 0 0 31 [(1, .int (((τ 3104 (1024 * d + j)) * (τ 3105 (1024 * d + j))) * (jf_bc (τ 3102 (1024 * d + j))))), (0, .ref (L 31 (1024 * d + j)))] (.int v31 :: []) := by
    intro v31 ev31
    subst ev31
    exact ga_iret X Y dX5_worth_31 (by first | decide | omega | (dsimp only; omega)) (by first | decide | omega | (dsimp only; omega)) ⟨congrArg (fun z => some (Value.int z)) (show (if (τ 3103 (1024 * d + j)) = 0 then -(((τ 3104 (1024 * d + j)) * (τ 3105 (1024 * d + j))) * (jf_bc (τ 3102 (1024 * d + j)))) else ((τ 3104 (1024 * d + j)) * (τ 3105 (1024 * d + j))) * (jf_bc (τ 3102 (1024 * d + j)))) = cd_worth τ d j from by unfold cd_worth; exact (rfl).symm), rfl, rfl⟩
  refine ga_if_eq X (tgt := 29) dX5_worth_22 (by decide) (fun c_22 => ?_) (fun c_22 => ?_)
  · refine ga_iload_n X 0 dX5_worth_29 rfl rfl ?_
    refine ga_ineg X dX5_worth_30 ?_
    exact J31 _ ((if_pos c_22).symm)
  · refine ga_iload_n X 0 dX5_worth_25 rfl rfl ?_
    refine ga_goto X (tgt := 31) dX5_worth_26 (by decide) ?_
    exact J31 _ ((if_neg c_22).symm)
