set_option maxRecDepth 100000
theorem gc_ite {c : Prop} [Decidable c] {a b : gm_S} {k : Nat} : (if c then a else b) k = if c then a k else b k := by split <;> rfl
theorem bI_01 {c : Prop} [Decidable c] : bI c = 0 ∨ bI c = 1 := by
  by_cases h : c
  · exact Or.inr (bI_t h)
  · exact Or.inl (bI_f h)
theorem gl_ne0 {x : Int64} (h : ¬ gl_c x 0 ≤ 0) : ¬ x = 0 := fun e => h (by rw [e]; decide)
theorem dn5 : ∀ i : Nat, i < 7 → (nI 5 - nI i < 0 → 6 ≤ i) ∧ (¬ nI 5 - nI i < 0 → i < 6 ∧ nI 5 - nI i = nI (5 - i)) := by decide
theorem dn5i : ∀ i : Nat, i < 6 → nI 5 - nI i + (-1) = nI 5 - nI (i + 1) := by decide
def cd_lowest1 (τ : gm_S) : Nat → Int32
  | 0 => (-1)
  | i + 1 => if (τ 600 (5 - i)) = 0 then if 0 ≤ (τ 400 (5 - i)) then cd_lowest1 τ i else nI 5 - nI i else cd_lowest1 τ i
theorem cd_lowest1_s (τ : gm_S) (i : Nat) : cd_lowest1 τ (i + 1) = if (τ 600 (5 - i)) = 0 then if 0 ≤ (τ 400 (5 - i)) then cd_lowest1 τ i else nI 5 - nI i else cd_lowest1 τ i := rfl
def cd_lowest (τ : gm_S) : Int32 := cd_lowest1 τ 6
set_option maxHeartbeats 4000000 in
theorem cm_lowest (l : Launch) (hl : l.stackTraces = false) (G : ga_X) (L N : gc_L) (τ : gm_S)  : gh_C l G yX1_lowest cX1_lowest 3 (some FieldType.int) ({ frames := 0, cells := 0, slots := 0, locals := 0 } : Room) [.ref (L 0 0)] L N τ (some (.int (cd_lowest τ))) := by
  refine gh_start RX1 hl rfl (by decide) (Nat.le_of_ble_eq_true rfl) (fun Γ h n0 n e X Y hP hn => ?_)
  subst e
  show ga Γ G h n 0 0 0 [(0, .ref (L 0 0))] []
  refine ga_iconst X (v := (-1)) dX1_lowest_0 (by decide) ?_
  refine ga_istore_n X [(1, .int (-1)), (0, .ref (L 0 0))] dX1_lowest_1 rfl (by decide) rfl ?_
  refine ga_iconst X (v := 5) dX1_lowest_2 (by decide) ?_
  refine ga_istore_n X [(2, .int 5), (1, .int (-1)), (0, .ref (L 0 0))] dX1_lowest_3 rfl (by decide) rfl ?_
  have L4 : ∀ (fu i : Nat) (x1 : Int32) (x2 : Int32), i ≤ 6 → 6 < i + fu → x1 = (cd_lowest1 τ i) → x2 = (nI 5 - nI i) → ga Γ G h n 0 0 4 [(0, .ref (L 0 0)), (1, .int x1), (2, .int x2)] ([]) := by
    intro fu
    induction fu with
    | zero => intro i x1 x2 hi hd; exact absurd hd (by omega)
    | succ fu ih4 =>
      intro i x1 x2 hi4 hd4 e1 e2
      rw [e1]
      rw [e2]
      refine ga_iload_n X 2 dX1_lowest_4 rfl rfl ?_
      refine ga_if_lt X (tgt := 38) dX1_lowest_5 (by decide) (fun c_5 => ?_) (fun c_5 => ?_)
      · have hx_5 : 6 = i := Nat.le_antisymm ((dn5 i (by omega)).1 c_5) hi4
        subst hx_5
        refine ga_iload_n X 1 dX1_lowest_38 rfl rfl ?_
        exact ga_iret X Y dX1_lowest_39 (by first | decide | omega | (dsimp only; omega)) (by first | decide | omega | (dsimp only; omega)) ⟨congrArg (fun z => some (Value.int z)) (show (cd_lowest1 τ 6) = cd_lowest τ from by unfold cd_lowest; exact (rfl).symm), rfl, rfl⟩
      · have hx_5 : i < 6 := ((dn5 i (by omega)).2 c_5).1
        have hd_5 := ((dn5 i (by omega)).2 c_5).2
        refine ga_aload_n X 0 dX1_lowest_8 rfl rfl ?_
        refine ga_get X in_X1 (ci := 0) rfl 5 (by decide) q193 rfl hP.r0 rfl dX1_lowest_9 ?_
        refine ga_iload_n X 2 dX1_lowest_12 rfl rfl ?_
        refine ga_zald X (5 - i) hd_5 (by omega) (by decide) hP.r6.1 dX1_lowest_13 ?_
        have J31 : ∀ (v31 : Int32), v31 = (if (τ 600 (5 - i)) = 0 then if 0 ≤ (τ 400 (5 - i)) then cd_lowest1 τ i else nI 5 - nI i else cd_lowest1 τ i) → ga Γ G h n 0 0 31 [(0, .ref (L 0 0)), (1, .int (cd_lowest1 τ i)), (2, .int (nI 5 - nI i))] (.int v31 :: []) := by
          intro v31 ev31
          subst ev31
          refine ga_istore_n X [(1, .int (if (τ 600 (5 - i)) = 0 then if 0 ≤ (τ 400 (5 - i)) then cd_lowest1 τ i else nI 5 - nI i else cd_lowest1 τ i)), (0, .ref (L 0 0)), (2, .int (nI 5 - nI i))] dX1_lowest_31 rfl (by decide) rfl ?_
          refine ga_iinc X 2 [(2, .int (nI 5 - nI (i + 1))), (1, .int (if (τ 600 (5 - i)) = 0 then if 0 ≤ (τ 400 (5 - i)) then cd_lowest1 τ i else nI 5 - nI i else cd_lowest1 τ i)), (0, .ref (L 0 0))] dX1_lowest_32 rfl (dn5i i (by omega)) (by decide) rfl ?_
          refine ga_goto X (tgt := 4) dX1_lowest_35 (by decide) ?_
          refine ga_sub [2, 1, 0] rfl ?_
          exact ih4 (i + 1) _ _ (by omega) (by omega) ((cd_lowest1_s τ i).symm) rfl
        refine ga_if_ne X (tgt := 30) dX1_lowest_14 (by decide) (fun c_14 => ?_) (fun c_14 => ?_)
        · refine ga_iload_n X 1 dX1_lowest_30 rfl rfl ?_
          exact J31 _ ((if_neg c_14).symm)
        · refine ga_aload_n X 0 dX1_lowest_17 rfl rfl ?_
          refine ga_get X in_X1 (ci := 0) rfl 3 (by decide) q191 rfl hP.r0 rfl dX1_lowest_18 ?_
          refine ga_iload_n X 2 dX1_lowest_21 rfl rfl ?_
          refine ga_iald X (5 - i) hd_5 (by omega) (by decide) hP.r4 dX1_lowest_22 ?_
          refine ga_if_ge X (tgt := 30) dX1_lowest_23 (by decide) (fun c_23 => ?_) (fun c_23 => ?_)
          · refine ga_iload_n X 1 dX1_lowest_30 rfl rfl ?_
            exact J31 _ (((if_pos c_14).trans (if_pos c_23)).symm)
          · refine ga_iload_n X 2 dX1_lowest_26 rfl rfl ?_
            refine ga_goto X (tgt := 31) dX1_lowest_27 (by decide) ?_
            exact J31 _ (((if_pos c_14).trans (if_neg c_23)).symm)
  refine ga_sub [2, 1, 0] rfl ?_
  exact L4 (6 + 1) 0 _ _ (by omega) (by omega) rfl rfl
