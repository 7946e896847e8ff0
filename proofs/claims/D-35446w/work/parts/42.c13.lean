set_option maxRecDepth 100000

def cd_iwL (τ : gm_S) (f : Nat → Int32) : Nat → Int32
  | 0 => 1
  | i + 1 => bI (¬ ((cd_iwL τ f i) = 0) ∧ (¬ ((3 * (τ 300 i)) < (if (0 : Int32) ≤ (cf_flow f (nI i)) then (cf_flow f (nI i)) else 0 - (cf_flow f (nI i))))))
theorem cd_iwL_s (τ : gm_S) (f : Nat → Int32) (i : Nat) : cd_iwL τ f (i + 1) = bI (¬ ((cd_iwL τ f i) = 0) ∧ (¬ ((3 * (τ 300 i)) < (if (0 : Int32) ≤ (cf_flow f (nI i)) then (cf_flow f (nI i)) else 0 - (cf_flow f (nI i)))))) := rfl
theorem iw_01 {τ : gm_S} {f : Nat → Int32} (i : Nat) : cd_iwL τ f i = 0 ∨ cd_iwL τ f i = 1 := by
  cases i with
  | zero => exact Or.inr rfl
  | succ i => rw [cd_iwL_s]; exact bI_01
def cd_isWithin (τ : gm_S) (f : Nat → Int32) : Int32 := cd_iwL τ f 3
set_option maxHeartbeats 4000000 in
theorem cm_isWithin (l : Launch) (hl : l.stackTraces = false) (G : ga_X) (L N : gc_L) (τ : gm_S) (a : Nat) (f : Nat → Int32)  : gr_C l G yX1_isWithin cX1_isWithin 4 (some FieldType.boolean) ({ frames := 1, cells := 0, slots := 0, locals := 21 } : Room) [.ref (L 0 0), .ref a] L N τ a (ga_I G 3 f) (some (.int (cd_isWithin τ f))) := by
  refine gr_start RX1 hl rfl (by decide) (Nat.le_of_ble_eq_true rfl) (fun Γ h n0 n e X Y hP hn ht_a => ?_)
  subst e
  show ga Γ G h n 0 0 0 [(0, .ref (L 0 0)), (1, .ref a)] []
  refine ga_iconst X (v := 1) dX1_isWithin_0 (by decide) ?_
  refine ga_istore_n X [(2, .int 1), (0, .ref (L 0 0)), (1, .ref a)] dX1_isWithin_1 rfl (by decide) rfl ?_
  refine ga_iconst X (v := 0) dX1_isWithin_2 (by decide) ?_
  refine ga_istore_n X [(3, .int 0), (2, .int 1), (0, .ref (L 0 0)), (1, .ref a)] dX1_isWithin_3 rfl (by decide) rfl ?_
  have L4 : ∀ (fu i : Nat) (x2 : Int32) (x3 : Int32), i ≤ 3 → 3 < i + fu → x2 = (cd_iwL τ f i) → x3 = (nI i) → ga Γ G h n 0 0 4 [(0, .ref (L 0 0)), (1, .ref a), (2, .int x2), (3, .int x3)] ([]) := by
    intro fu
    induction fu with
    | zero => intro i x2 x3 hi hd; exact absurd hd (by omega)
    | succ fu ih4 =>
      intro i x2 x3 hi4 hd4 e2 e3
      rw [e2]
      rw [e3]
      refine ga_iload_n X 3 dX1_isWithin_4 rfl rfl ?_
      refine ga_iconst X (v := 3) dX1_isWithin_5 (by decide) ?_
      refine ga_icmp_ge X (tgt := 44) dX1_isWithin_6 (by decide) (fun c_6 => ?_) (fun c_6 => ?_)
      · have hx_6 : 3 = i := Nat.le_antisymm ((nI_leI (a := 3) (by omega) (by omega)).mp c_6) hi4
        subst hx_6
        refine ga_iload_n X 2 dX1_isWithin_44 rfl rfl ?_
        exact ga_zret X Y (z_nar (iw_01 3)) dX1_isWithin_45 (by first | decide | omega | (dsimp only; omega)) (by first | decide | omega | (dsimp only; omega)) ⟨congrArg (fun z => some (Value.int z)) (show (cd_iwL τ f 3) = cd_isWithin τ f from by unfold cd_isWithin; exact (rfl).symm), rfl, rfl⟩
      · have hx_6 : i < 3 := Nat.lt_of_not_le fun z => c_6 ((nI_leI (a := 3) (by omega) (by omega)).mpr z)
        refine ga_iload_n X 2 dX1_isWithin_9 rfl rfl ?_
        have J37 : ∀ (v37 : Int32), v37 = (bI (¬ ((cd_iwL τ f i) = 0) ∧ (¬ ((3 * (τ 300 i)) < (if (0 : Int32) ≤ (cf_flow f (nI i)) then (cf_flow f (nI i)) else 0 - (cf_flow f (nI i))))))) → ga Γ G h n 0 0 37 [(0, .ref (L 0 0)), (1, .ref a), (2, .int (cd_iwL τ f i)), (3, .int (nI i))] (.int v37 :: []) := by
          intro v37 ev37
          subst ev37
          refine ga_istore_n X [(2, .int (bI (¬ ((cd_iwL τ f i) = 0) ∧ (¬ ((3 * (τ 300 i)) < (if (0 : Int32) ≤ (cf_flow f (nI i)) then (cf_flow f (nI i)) else 0 - (cf_flow f (nI i)))))))), (0, .ref (L 0 0)), (1, .ref a), (3, .int (nI i))] dX1_isWithin_37 rfl (by decide) rfl ?_
          refine ga_iinc X 3 [(3, .int (nI (i + 1))), (2, .int (bI (¬ ((cd_iwL τ f i) = 0) ∧ (¬ ((3 * (τ 300 i)) < (if (0 : Int32) ≤ (cf_flow f (nI i)) then (cf_flow f (nI i)) else 0 - (cf_flow f (nI i)))))))), (0, .ref (L 0 0)), (1, .ref a)] dX1_isWithin_38 rfl (nI_1 i) (by decide) rfl ?_
          refine ga_goto X (tgt := 4) dX1_isWithin_41 (by decide) ?_
          refine ga_sub [2, 3, 1, 0] rfl ?_
          exact ih4 (i + 1) _ _ (by omega) (by omega) ((cd_iwL_s τ f i).symm) rfl
        refine ga_if_eq X (tgt := 36) dX1_isWithin_10 (by decide) (fun c_10 => ?_) (fun c_10 => ?_)
        · refine ga_iconst X (v := 0) dX1_isWithin_36 (by decide) ?_
          exact J37 _ ((bI_f (fun hh => hh.1 c_10)).symm)
        · refine ga_iload_n X 3 dX1_isWithin_13 rfl rfl ?_
          refine ga_aload_n X 1 dX1_isWithin_14 rfl rfl ?_
          refine ga_callS X Y (cs_flowOn _ X.tr G (nI i) a f _ _ ht_a) wX1_203 ⟨Nat.le_of_ble_eq_true rfl, Nat.le_of_ble_eq_true rfl⟩ ⟨(by first | decide | omega | (dsimp only; omega)), (by first | decide | omega | (dsimp only; omega))⟩ rfl (Nat.le_of_ble_eq_true rfl) dX1_isWithin_15 (fun v9 h9 n9 hq _ => ?_) (fun _ _ _ q _ => q.elim)
          obtain ⟨rfl, hq2, hq3⟩ := hq
          rw [hq2, hq3]
          refine ga_widen (k2 := 0) (n2 := 0) (by first | decide | omega | (dsimp only; omega)) (by first | decide | omega | (dsimp only; omega)) ?_
          show ga Γ G _ _ _ _ 18 [(0, .ref (L 0 0)), (1, .ref a), (2, .int (cd_iwL τ f i)), (3, .int (nI i))] (.int (cf_flow f (nI i)) :: [])
          refine ga_mabs X Y q1055 q1056 q71 q1057 (by first | decide | omega | (dsimp only; omega)) (by first | decide | omega | (dsimp only; omega)) (by first | decide | omega | (dsimp only; omega)) (by first | decide | omega | (dsimp only; omega)) (Nat.le_of_ble_eq_true rfl) dX1_isWithin_18 ?_
          refine ga_iconst X (v := 3) dX1_isWithin_21 (by decide) ?_
          refine ga_aload_n X 0 dX1_isWithin_22 rfl rfl ?_
          refine ga_get X in_X1 (ci := 0) rfl 2 (by decide) q190 rfl hP.r0 rfl dX1_isWithin_23 ?_
          refine ga_iload_n X 3 dX1_isWithin_26 rfl rfl ?_
          refine ga_iald X i rfl (by omega) (by decide) hP.r3 dX1_isWithin_27 ?_
          refine ga_imul X dX1_isWithin_28 ?_
          refine ga_icmp_gt X (tgt := 36) dX1_isWithin_29 (by decide) (fun c_29 => ?_) (fun c_29 => ?_)
          · refine ga_iconst X (v := 0) dX1_isWithin_36 (by decide) ?_
            exact J37 _ ((bI_f (fun hh => (fun hh => hh c_29) hh.2)).symm)
          · refine ga_iconst X (v := 1) dX1_isWithin_32 (by decide) ?_
            refine ga_goto X (tgt := 37) dX1_isWithin_33 (by decide) ?_
            exact J37 _ ((bI_t ⟨c_10, c_29⟩).symm)
  refine ga_sub [2, 3, 1, 0] rfl ?_
  exact L4 (3 + 1) 0 _ _ (by omega) (by omega) rfl rfl
