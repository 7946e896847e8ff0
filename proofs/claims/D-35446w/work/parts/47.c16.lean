set_option maxRecDepth 100000
def cd_bfL (τ : gm_S) (N : gc_L) (m : Nat) (sn : Nat → Int32) : Nat → Int32
  | 0 => (-1)
  | i + 1 => if ((((sn i) = 0) ∧ (¬ ((τ 3305 (1024 * (N 16 0) + i)) ≤ 0) ∧ (((τ 3302 (1024 * (N 16 0) + i)) = (τ 3302 (1024 * (N 16 0) + m))) ∧ (¬ ((τ 3303 (1024 * (N 16 0) + i)) = (τ 3303 (1024 * (N 16 0) + m))) ∧ (¬ ((τ 3300 (1024 * (N 16 0) + i)) = (τ 3300 (1024 * (N 16 0) + m)))))))) ∧ ((((τ 3303 (1024 * (N 16 0) + m)) = 0) ∧ (¬ ((τ 3304 (1024 * (N 16 0) + i)) < (τ 3304 (1024 * (N 16 0) + m))))) ∨ (¬ ((τ 3303 (1024 * (N 16 0) + m)) = 0) ∧ (¬ ((τ 3304 (1024 * (N 16 0) + m)) < (τ 3304 (1024 * (N 16 0) + i))))))) ∧ (((cd_bfL τ N m sn i) = (-1)) ∨ ((((τ 3303 (1024 * (N 16 0) + m)) = 0) ∧ (¬ ((τ 3304 (1024 * (N 16 0) + i)) ≤ (τ 3304 (1024 * (N 16 0) + (cx (cd_bfL τ N m sn i))))))) ∨ (¬ ((τ 3303 (1024 * (N 16 0) + m)) = 0) ∧ (¬ ((τ 3304 (1024 * (N 16 0) + (cx (cd_bfL τ N m sn i)))) ≤ (τ 3304 (1024 * (N 16 0) + i))))))) then nI i else cd_bfL τ N m sn i
theorem cd_bfL_s (τ : gm_S) (N : gc_L) (m : Nat) (sn : Nat → Int32) (i : Nat) : cd_bfL τ N m sn (i + 1) = if ((((sn i) = 0) ∧ (¬ ((τ 3305 (1024 * (N 16 0) + i)) ≤ 0) ∧ (((τ 3302 (1024 * (N 16 0) + i)) = (τ 3302 (1024 * (N 16 0) + m))) ∧ (¬ ((τ 3303 (1024 * (N 16 0) + i)) = (τ 3303 (1024 * (N 16 0) + m))) ∧ (¬ ((τ 3300 (1024 * (N 16 0) + i)) = (τ 3300 (1024 * (N 16 0) + m)))))))) ∧ ((((τ 3303 (1024 * (N 16 0) + m)) = 0) ∧ (¬ ((τ 3304 (1024 * (N 16 0) + i)) < (τ 3304 (1024 * (N 16 0) + m))))) ∨ (¬ ((τ 3303 (1024 * (N 16 0) + m)) = 0) ∧ (¬ ((τ 3304 (1024 * (N 16 0) + m)) < (τ 3304 (1024 * (N 16 0) + i))))))) ∧ (((cd_bfL τ N m sn i) = (-1)) ∨ ((((τ 3303 (1024 * (N 16 0) + m)) = 0) ∧ (¬ ((τ 3304 (1024 * (N 16 0) + i)) ≤ (τ 3304 (1024 * (N 16 0) + (cx (cd_bfL τ N m sn i))))))) ∨ (¬ ((τ 3303 (1024 * (N 16 0) + m)) = 0) ∧ (¬ ((τ 3304 (1024 * (N 16 0) + (cx (cd_bfL τ N m sn i)))) ≤ (τ 3304 (1024 * (N 16 0) + i))))))) then nI i else cd_bfL τ N m sn i := rfl
theorem bf_c {τ : gm_S} {N : gc_L} {m : Nat} {sn : Nat → Int32} : ∀ i : Nat, cd_bfL τ N m sn i = -1 ∨ ∃ j, j < i ∧ cd_bfL τ N m sn i = nI j := by
  intro i
  induction i with
  | zero => exact Or.inl rfl
  | succ i ih =>
    rw [cd_bfL_s]
    have q : ∀ c : Prop, ∀ _ : Decidable c, (if c then nI i else cd_bfL τ N m sn i) = -1 ∨ ∃ j, j < i + 1 ∧ (if c then nI i else cd_bfL τ N m sn i) = nI j := fun c _ => by
      by_cases hc : c
      · rw [if_pos hc]; exact Or.inr ⟨i, by omega, rfl⟩
      · rw [if_neg hc]; exact ih.imp id (fun ⟨j, h1, h2⟩ => ⟨j, by omega, h2⟩)
    have q2 : ∀ c : Prop, ∀ _ : Decidable c, (if c then cd_bfL τ N m sn i else nI i) = -1 ∨ ∃ j, j < i + 1 ∧ (if c then cd_bfL τ N m sn i else nI i) = nI j := fun c _ => by
      by_cases hc : c
      · rw [if_pos hc]; exact ih.imp id (fun ⟨j, h1, h2⟩ => ⟨j, by omega, h2⟩)
      · rw [if_neg hc]; exact Or.inr ⟨i, by omega, rfl⟩
    first | exact q _ _ | exact q2 _ _
theorem bf_lt {τ : gm_S} {N : gc_L} {m : Nat} {sn : Nat → Int32} (i : Nat) (hi : i < 2147483648) (h : ¬ cd_bfL τ N m sn i = -1) : cx (cd_bfL τ N m sn i) < i ∧ cd_bfL τ N m sn i = nI (cx (cd_bfL τ N m sn i)) := by
  obtain ⟨j, hj, e⟩ := (bf_c i).resolve_left h
  have e2 : cx (cd_bfL τ N m sn i) = j := by rw [e]; exact nI_clamp (by omega)
  rw [e2]
  exact ⟨hj, e⟩
def cd_bestFor (τ : gm_S) (N : gc_L) (m : Nat) (sn : Nat → Int32) : Int32 := cd_bfL τ N m sn (N 13 (N 16 0))
def cs_bestFor (τ : gm_S) (N : gc_L) (m : Nat) (sn : Nat → Int32) : Nat → Int32 := if cd_bestFor τ N m sn = -1 then sn else upd sn (cx (cd_bestFor τ N m sn)) 1
set_option maxHeartbeats 4000000 in
theorem cm_bestFor (l : Launch) (hl : l.stackTraces = false) (G : ga_X) (L N : gc_L) (τ : gm_S) (m a : Nat) (sn : Nat → Int32) (hm : m < N 66 (N 16 0)) : gb_C l G yX1_bestFor cX1_bestFor 8 (some (FieldType.object "GridMarket$Offer")) ({ frames := 3, cells := 0, slots := 0, locals := 64 } : Room) [.ref (L 0 0), .ref (L 33 (1024 * (N 16 0) + m)), .ref a] L N τ a sn (cs_bestFor τ N m sn) (if cd_bestFor τ N m sn = -1 then .null else .ref (L 33 (1024 * (N 16 0) + cx (cd_bestFor τ N m sn)))) := by
  refine gb_start RX1 hl rfl (by decide) (Nat.le_of_ble_eq_true rfl) (fun Γ h n0 n e X Y hP hn hAa h0a ht_a => ?_)
  subst e
  have hb13 := hP.n13 (N 16 0)
  show ga Γ G h n 0 0 0 [(0, .ref (L 0 0)), (1, .ref (L 33 (1024 * (N 16 0) + m))), (2, .ref a)] []
  refine ga_iconst X (v := (-1)) dX1_bestFor_0 (by decide) ?_
  refine ga_istore_n X [(3, .int (-1)), (0, .ref (L 0 0)), (1, .ref (L 33 (1024 * (N 16 0) + m))), (2, .ref a)] dX1_bestFor_1 rfl (by decide) rfl ?_
  refine ga_iconst X (v := 0) dX1_bestFor_2 (by decide) ?_
  refine ga_istore X [(4, .int 0), (3, .int (-1)), (0, .ref (L 0 0)), (1, .ref (L 33 (1024 * (N 16 0) + m))), (2, .ref a)] dX1_bestFor_3 (by decide) rfl ?_
  have L5 : ∀ (fu i : Nat) (x3 : Int32) (x4 : Int32), i ≤ N 13 (N 16 0) → N 13 (N 16 0) < i + fu → x3 = (cd_bfL τ N m sn i) → x4 = (nI i) → ga Γ G h n 0 0 5 [(0, .ref (L 0 0)), (1, .ref (L 33 (1024 * (N 16 0) + m))), (2, .ref a), (3, .int x3), (4, .int x4)] ([]) := by
    intro fu
    induction fu with
    | zero => intro i x3 x4 hi hd; exact absurd hd (by omega)
    | succ fu ih5 =>
      intro i x3 x4 hi5 hd5 e3 e4
      rw [e3]
      rw [e4]
      refine ga_iload X 4 dX1_bestFor_5 rfl ?_
      refine ga_aload_n X 0 dX1_bestFor_7 rfl rfl ?_
      refine ga_get X in_X1 (ci := 0) rfl 1 (by decide) q189 rfl hP.r0 rfl dX1_bestFor_8 ?_
      refine ga_getN X in_X2 (ci := 1) rfl 3 (by decide) q150 rfl (hP.r36 (Nat.le_refl _)) rfl dX1_bestFor_11 ?_
      refine ga_callF X Y (jm_size _ X.tr G (L 13 (N 16 0)) (gc_e G L N 13 (N 16 0)) (N 13 (N 16 0)) (τ 1300 (N 16 0)) _ _ (hP.r13 (Nat.le_refl _))) wX1_70 (ci := 11) rfl (hP.r13 (Nat.le_refl _)) ⟨Nat.le_of_ble_eq_true rfl, Nat.le_of_ble_eq_true rfl⟩ ⟨(by first | decide | omega | (dsimp only; omega)), (by first | decide | omega | (dsimp only; omega))⟩ rfl (Nat.le_of_ble_eq_true rfl) dX1_bestFor_14 (fun v9 h9 n9 hq _ => ?_) (fun _ _ _ q _ => q.elim)
      obtain ⟨rfl, hq2, hq3⟩ := hq
      rw [hq2, hq3]
      show ga Γ G _ _ _ _ 19 [(0, .ref (L 0 0)), (1, .ref (L 33 (1024 * (N 16 0) + m))), (2, .ref a), (3, .int (cd_bfL τ N m sn i)), (4, .int (nI i))] (.int (nI (N 13 (N 16 0))) :: .int (nI i) :: [])
      refine ga_icmp_ge X (tgt := 244) dX1_bestFor_19 (by decide) (fun c_19 => ?_) (fun c_19 => ?_)
      · have hx_19 : N 13 (N 16 0) = i := Nat.le_antisymm ((nI_leI (a := N 13 (N 16 0)) (by omega) (by omega)).mp c_19) hi5
        subst hx_19
        refine ga_iload_n X 3 dX1_bestFor_244 rfl rfl ?_
        refine ga_iconst X (v := (-1)) dX1_bestFor_245 (by decide) ?_
        refine ga_icmp_eq X (tgt := 253) dX1_bestFor_246 (by decide) (fun c_246 => ?_) (fun c_246 => ?_)
        · refine ga_iload_n X 3 dX1_bestFor_253 rfl rfl ?_
          refine ga_iconst X (v := (-1)) dX1_bestFor_254 (by decide) ?_
          refine ga_icmp_ne X (tgt := 262) dX1_bestFor_255 (by decide) (fun c_255 => ?_) (fun c_255 => ?_)
          · exact absurd c_246 c_255
          · refine ga_null X dX1_bestFor_258 ?_
            refine ga_goto X (tgt := 278) dX1_bestFor_259 (by decide) ?_
            exact ga_aret X Y (Or.inl ⟨_, rfl⟩) (Or.inl rfl) dX1_bestFor_278 (by first | decide | omega | (dsimp only; omega)) (by first | decide | omega | (dsimp only; omega)) ⟨by unfold cd_bestFor; rw [if_pos c_246], rfl, by unfold cs_bestFor cd_bestFor; rw [if_pos c_246]; exact ht_a, fun _ _ => rfl⟩
        · obtain ⟨hjb, enb⟩ := bf_lt (N 13 (N 16 0)) (by omega) c_246
          refine ga_aload_n X 2 dX1_bestFor_249 rfl rfl ?_
          refine ga_iload_n X 3 dX1_bestFor_250 rfl rfl ?_
          refine ga_iconst X (v := 1) dX1_bestFor_251 (by decide) ?_
          refine ga_zast X (cx (cd_bfL τ N m sn (N 13 (N 16 0)))) enb (by omega) (by decide) rfl ht_a hAa dX1_bestFor_252 ?_
          refine gb_up (P := fun h => ga Γ G h n 0 0 253 [(0, .ref (L 0 0)), (1, .ref (L 33 (1024 * (N 16 0) + m))), (2, .ref a), (3, .int (cd_bfL τ N m sn (N 13 (N 16 0)))), (4, .int (nI (N 13 (N 16 0))))] ([])) hP h0a (fun h hP ht_a hk => ?_)
          refine ga_iload_n X 3 dX1_bestFor_253 rfl rfl ?_
          refine ga_iconst X (v := (-1)) dX1_bestFor_254 (by decide) ?_
          refine ga_icmp_ne X (tgt := 262) dX1_bestFor_255 (by decide) (fun c_255 => ?_) (fun c_255 => ?_)
          · refine ga_aload_n X 0 dX1_bestFor_262 rfl rfl ?_
            refine ga_get X in_X1 (ci := 0) rfl 1 (by decide) q189 rfl hP.r0 rfl dX1_bestFor_263 ?_
            refine ga_getN X in_X2 (ci := 1) rfl 3 (by decide) q150 rfl (hP.r36 (Nat.le_refl _)) rfl dX1_bestFor_266 ?_
            refine ga_iload_n X 3 dX1_bestFor_269 rfl rfl ?_
            have hj_4 : cx (cd_bfL τ N m sn (N 13 (N 16 0))) < N 13 (N 16 0) := hjb
            obtain ⟨f_4, hE_4, hk_4, hb_4, hf_4, he_4⟩ := hP.r23 (Nat.le_refl _) (by omega)
            refine ga_st (st' := .int (nI (cx (cd_bfL τ N m sn (N 13 (N 16 0))))) :: .ref (L 13 (N 16 0)) :: []) (by rw [← enb]) ?_
            refine ga_callF X Y (jm_get _ X.tr G (L 13 (N 16 0)) (gc_e G L N 13 (N 16 0)) (N 13 (N 16 0)) (N 23 (N 16 0)) (cx (cd_bfL τ N m sn (N 13 (N 16 0)))) _ (τ 1300 (N 16 0)) f_4 _ _ (hP.r13 (Nat.le_refl _)) hE_4 hj_4 hk_4 (by omega) (hf_4 (cx (cd_bfL τ N m sn (N 13 (N 16 0)))) hj_4)) wX1_91 (ci := 11) rfl (hP.r13 (Nat.le_refl _)) ⟨Nat.le_of_ble_eq_true rfl, Nat.le_of_ble_eq_true rfl⟩ ⟨(by first | decide | omega | (dsimp only; omega)), (by first | decide | omega | (dsimp only; omega))⟩ rfl (Nat.le_of_ble_eq_true rfl) dX1_bestFor_270 (fun v9 h9 n9 hq _ => ?_) (fun _ _ _ q _ => q.elim)
            obtain ⟨rfl, hq2, hq3⟩ := hq
            rw [hq2, hq3]
            show ga Γ G _ _ _ _ 275 [(0, .ref (L 0 0)), (1, .ref (L 33 (1024 * (N 16 0) + m))), (2, .ref a), (3, .int (cd_bfL τ N m sn (N 13 (N 16 0)))), (4, .int (nI (N 13 (N 16 0))))] (.ref (L 33 (1024 * (N 16 0) + (cx (cd_bfL τ N m sn (N 13 (N 16 0)))))) :: [])
            refine ga_cast X (ci := 8) rfl q1135 (hP.r33 (Nat.le_refl _) (hP.o13 hj_4)) dX1_bestFor_275 ?_
            exact ga_aret X Y (Or.inl ⟨_, rfl⟩) (Or.inr ⟨_, rfl⟩) dX1_bestFor_278 (by first | decide | omega | (dsimp only; omega)) (by first | decide | omega | (dsimp only; omega)) ⟨by unfold cd_bestFor; rw [if_neg c_246], rfl, by unfold cs_bestFor cd_bestFor; rw [if_neg c_246]; exact ht_a, hk⟩
          · exact absurd c_255 c_246
      · have hx_19 : i < N 13 (N 16 0) := Nat.lt_of_not_le fun z => c_19 ((nI_leI (a := N 13 (N 16 0)) (by omega) (by omega)).mpr z)
        refine ga_aload_n X 0 dX1_bestFor_22 rfl rfl ?_
        refine ga_get X in_X1 (ci := 0) rfl 1 (by decide) q189 rfl hP.r0 rfl dX1_bestFor_23 ?_
        refine ga_getN X in_X2 (ci := 1) rfl 3 (by decide) q150 rfl (hP.r36 (Nat.le_refl _)) rfl dX1_bestFor_26 ?_
        refine ga_iload X 4 dX1_bestFor_29 rfl ?_
        have hj_5 : i < N 13 (N 16 0) := (by omega)
        obtain ⟨f_5, hE_5, hk_5, hb_5, hf_5, he_5⟩ := hP.r23 (Nat.le_refl _) (by omega)
        refine ga_callF X Y (jm_get _ X.tr G (L 13 (N 16 0)) (gc_e G L N 13 (N 16 0)) (N 13 (N 16 0)) (N 23 (N 16 0)) i _ (τ 1300 (N 16 0)) f_5 _ _ (hP.r13 (Nat.le_refl _)) hE_5 hj_5 hk_5 (by omega) (hf_5 i hj_5)) wX1_91 (ci := 11) rfl (hP.r13 (Nat.le_refl _)) ⟨Nat.le_of_ble_eq_true rfl, Nat.le_of_ble_eq_true rfl⟩ ⟨(by first | decide | omega | (dsimp only; omega)), (by first | decide | omega | (dsimp only; omega))⟩ rfl (Nat.le_of_ble_eq_true rfl) dX1_bestFor_31 (fun v9 h9 n9 hq _ => ?_) (fun _ _ _ q _ => q.elim)
        obtain ⟨rfl, hq2, hq3⟩ := hq
        rw [hq2, hq3]
        show ga Γ G _ _ _ _ 36 [(0, .ref (L 0 0)), (1, .ref (L 33 (1024 * (N 16 0) + m))), (2, .ref a), (3, .int (cd_bfL τ N m sn i)), (4, .int (nI i))] (.ref (L 33 (1024 * (N 16 0) + i)) :: [])
        refine ga_cast X (ci := 8) rfl q1135 (hP.r33 (Nat.le_refl _) (hP.o13 hj_5)) dX1_bestFor_36 ?_
        refine ga_astore X [(5, .ref (L 33 (1024 * (N 16 0) + i))), (0, .ref (L 0 0)), (1, .ref (L 33 (1024 * (N 16 0) + m))), (2, .ref a), (3, .int (cd_bfL τ N m sn i)), (4, .int (nI i))] dX1_bestFor_39 (by decide) rfl ?_
        refine ga_aload_n X 3 dX1_bestFor_41 rfl rfl ?_
        refine ga_iload X 5 dX1_bestFor_42 rfl ?_
        refine ga_zald X i rfl (by omega) (by decide) ht_a dX1_bestFor_44 ?_
        have J97 : ∀ (v97 : Int32), v97 = (bI (((sn i) = 0) ∧ (¬ ((τ 3305 (1024 * (N 16 0) + i)) ≤ 0) ∧ (((τ 3302 (1024 * (N 16 0) + i)) = (τ 3302 (1024 * (N 16 0) + m))) ∧ (¬ ((τ 3303 (1024 * (N 16 0) + i)) = (τ 3303 (1024 * (N 16 0) + m))) ∧ (¬ ((τ 3300 (1024 * (N 16 0) + i)) = (τ 3300 (1024 * (N 16 0) + m))))))))) → ga Γ G h n 0 0 97 [(5, .ref (L 33 (1024 * (N 16 0) + i))), (0, .ref (L 0 0)), (1, .ref (L 33 (1024 * (N 16 0) + m))), (2, .ref a), (3, .int (cd_bfL τ N m sn i)), (4, .int (nI i))] (.int v97 :: []) := by
          intro v97 ev97
          subst ev97
          refine ga_istore X [(6, .int (bI (((sn i) = 0) ∧ (¬ ((τ 3305 (1024 * (N 16 0) + i)) ≤ 0) ∧ (((τ 3302 (1024 * (N 16 0) + i)) = (τ 3302 (1024 * (N 16 0) + m))) ∧ (¬ ((τ 3303 (1024 * (N 16 0) + i)) = (τ 3303 (1024 * (N 16 0) + m))) ∧ (¬ ((τ 3300 (1024 * (N 16 0) + i)) = (τ 3300 (1024 * (N 16 0) + m)))))))))), (5, .ref (L 33 (1024 * (N 16 0) + i))), (0, .ref (L 0 0)), (1, .ref (L 33 (1024 * (N 16 0) + m))), (2, .ref a), (3, .int (cd_bfL τ N m sn i)), (4, .int (nI i))] dX1_bestFor_97 (by decide) rfl ?_
          refine ga_iload X 0 dX1_bestFor_99 rfl ?_
          have J143 : ∀ (v143 : Int32), v143 = (bI ((((sn i) = 0) ∧ (¬ ((τ 3305 (1024 * (N 16 0) + i)) ≤ 0) ∧ (((τ 3302 (1024 * (N 16 0) + i)) = (τ 3302 (1024 * (N 16 0) + m))) ∧ (¬ ((τ 3303 (1024 * (N 16 0) + i)) = (τ 3303 (1024 * (N 16 0) + m))) ∧ (¬ ((τ 3300 (1024 * (N 16 0) + i)) = (τ 3300 (1024 * (N 16 0) + m)))))))) ∧ ((((τ 3303 (1024 * (N 16 0) + m)) = 0) ∧ (¬ ((τ 3304 (1024 * (N 16 0) + i)) < (τ 3304 (1024 * (N 16 0) + m))))) ∨ (¬ ((τ 3303 (1024 * (N 16 0) + m)) = 0) ∧ (¬ ((τ 3304 (1024 * (N 16 0) + m)) < (τ 3304 (1024 * (N 16 0) + i)))))))) → ga Γ G h n 0 0 143 [(6, .int (bI (((sn i) = 0) ∧ (¬ ((τ 3305 (1024 * (N 16 0) + i)) ≤ 0) ∧ (((τ 3302 (1024 * (N 16 0) + i)) = (τ 3302 (1024 * (N 16 0) + m))) ∧ (¬ ((τ 3303 (1024 * (N 16 0) + i)) = (τ 3303 (1024 * (N 16 0) + m))) ∧ (¬ ((τ 3300 (1024 * (N 16 0) + i)) = (τ 3300 (1024 * (N 16 0) + m)))))))))), (5, .ref (L 33 (1024 * (N 16 0) + i))), (0, .ref (L 0 0)), (1, .ref (L 33 (1024 * (N 16 0) + m))), (2, .ref a), (3, .int (cd_bfL τ N m sn i)), (4, .int (nI i))] (.int v143 :: []) := by
            intro v143 ev143
            subst ev143
            refine ga_istore X [(6, .int (bI ((((sn i) = 0) ∧ (¬ ((τ 3305 (1024 * (N 16 0) + i)) ≤ 0) ∧ (((τ 3302 (1024 * (N 16 0) + i)) = (τ 3302 (1024 * (N 16 0) + m))) ∧ (¬ ((τ 3303 (1024 * (N 16 0) + i)) = (τ 3303 (1024 * (N 16 0) + m))) ∧ (¬ ((τ 3300 (1024 * (N 16 0) + i)) = (τ 3300 (1024 * (N 16 0) + m)))))))) ∧ ((((τ 3303 (1024 * (N 16 0) + m)) = 0) ∧ (¬ ((τ 3304 (1024 * (N 16 0) + i)) < (τ 3304 (1024 * (N 16 0) + m))))) ∨ (¬ ((τ 3303 (1024 * (N 16 0) + m)) = 0) ∧ (¬ ((τ 3304 (1024 * (N 16 0) + m)) < (τ 3304 (1024 * (N 16 0) + i))))))))), (5, .ref (L 33 (1024 * (N 16 0) + i))), (0, .ref (L 0 0)), (1, .ref (L 33 (1024 * (N 16 0) + m))), (2, .ref a), (3, .int (cd_bfL τ N m sn i)), (4, .int (nI i))] dX1_bestFor_143 (by decide) rfl ?_
            refine ga_iload X 0 dX1_bestFor_145 rfl ?_
            have J224 : ∀ (v224 : Int32), v224 = (bI (((((sn i) = 0) ∧ (¬ ((τ 3305 (1024 * (N 16 0) + i)) ≤ 0) ∧ (((τ 3302 (1024 * (N 16 0) + i)) = (τ 3302 (1024 * (N 16 0) + m))) ∧ (¬ ((τ 3303 (1024 * (N 16 0) + i)) = (τ 3303 (1024 * (N 16 0) + m))) ∧ (¬ ((τ 3300 (1024 * (N 16 0) + i)) = (τ 3300 (1024 * (N 16 0) + m)))))))) ∧ ((((τ 3303 (1024 * (N 16 0) + m)) = 0) ∧ (¬ ((τ 3304 (1024 * (N 16 0) + i)) < (τ 3304 (1024 * (N 16 0) + m))))) ∨ (¬ ((τ 3303 (1024 * (N 16 0) + m)) = 0) ∧ (¬ ((τ 3304 (1024 * (N 16 0) + m)) < (τ 3304 (1024 * (N 16 0) + i))))))) ∧ (((cd_bfL τ N m sn i) = (-1)) ∨ ((((τ 3303 (1024 * (N 16 0) + m)) = 0) ∧ (¬ ((τ 3304 (1024 * (N 16 0) + i)) ≤ (τ 3304 (1024 * (N 16 0) + (cx (cd_bfL τ N m sn i))))))) ∨ (¬ ((τ 3303 (1024 * (N 16 0) + m)) = 0) ∧ (¬ ((τ 3304 (1024 * (N 16 0) + (cx (cd_bfL τ N m sn i)))) ≤ (τ 3304 (1024 * (N 16 0) + i))))))))) → ga Γ G h n 0 0 224 [(6, .int (bI ((((sn i) = 0) ∧ (¬ ((τ 3305 (1024 * (N 16 0) + i)) ≤ 0) ∧ (((τ 3302 (1024 * (N 16 0) + i)) = (τ 3302 (1024 * (N 16 0) + m))) ∧ (¬ ((τ 3303 (1024 * (N 16 0) + i)) = (τ 3303 (1024 * (N 16 0) + m))) ∧ (¬ ((τ 3300 (1024 * (N 16 0) + i)) = (τ 3300 (1024 * (N 16 0) + m)))))))) ∧ ((((τ 3303 (1024 * (N 16 0) + m)) = 0) ∧ (¬ ((τ 3304 (1024 * (N 16 0) + i)) < (τ 3304 (1024 * (N 16 0) + m))))) ∨ (¬ ((τ 3303 (1024 * (N 16 0) + m)) = 0) ∧ (¬ ((τ 3304 (1024 * (N 16 0) + m)) < (τ 3304 (1024 * (N 16 0) + i))))))))), (5, .ref (L 33 (1024 * (N 16 0) + i))), (0, .ref (L 0 0)), (1, .ref (L 33 (1024 * (N 16 0) + m))), (2, .ref a), (3, .int (cd_bfL τ N m sn i)), (4, .int (nI i))] (.int v224 :: []) := by
              intro v224 ev224
              subst ev224
              refine ga_istore X [(7, .int (bI (((((sn i) = 0) ∧ (¬ ((τ 3305 (1024 * (N 16 0) + i)) ≤ 0) ∧ (((τ 3302 (1024 * (N 16 0) + i)) = (τ 3302 (1024 * (N 16 0) + m))) ∧ (¬ ((τ 3303 (1024 * (N 16 0) + i)) = (τ 3303 (1024 * (N 16 0) + m))) ∧ (¬ ((τ 3300 (1024 * (N 16 0) + i)) = (τ 3300 (1024 * (N 16 0) + m)))))))) ∧ ((((τ 3303 (1024 * (N 16 0) + m)) = 0) ∧ (¬ ((τ 3304 (1024 * (N 16 0) + i)) < (τ 3304 (1024 * (N 16 0) + m))))) ∨ (¬ ((τ 3303 (1024 * (N 16 0) + m)) = 0) ∧ (¬ ((τ 3304 (1024 * (N 16 0) + m)) < (τ 3304 (1024 * (N 16 0) + i))))))) ∧ (((cd_bfL τ N m sn i) = (-1)) ∨ ((((τ 3303 (1024 * (N 16 0) + m)) = 0) ∧ (¬ ((τ 3304 (1024 * (N 16 0) + i)) ≤ (τ 3304 (1024 * (N 16 0) + (cx (cd_bfL τ N m sn i))))))) ∨ (¬ ((τ 3303 (1024 * (N 16 0) + m)) = 0) ∧ (¬ ((τ 3304 (1024 * (N 16 0) + (cx (cd_bfL τ N m sn i)))) ≤ (τ 3304 (1024 * (N 16 0) + i)))))))))), (6, .int (bI ((((sn i) = 0) ∧ (¬ ((τ 3305 (1024 * (N 16 0) + i)) ≤ 0) ∧ (((τ 3302 (1024 * (N 16 0) + i)) = (τ 3302 (1024 * (N 16 0) + m))) ∧ (¬ ((τ 3303 (1024 * (N 16 0) + i)) = (τ 3303 (1024 * (N 16 0) + m))) ∧ (¬ ((τ 3300 (1024 * (N 16 0) + i)) = (τ 3300 (1024 * (N 16 0) + m)))))))) ∧ ((((τ 3303 (1024 * (N 16 0) + m)) = 0) ∧ (¬ ((τ 3304 (1024 * (N 16 0) + i)) < (τ 3304 (1024 * (N 16 0) + m))))) ∨ (¬ ((τ 3303 (1024 * (N 16 0) + m)) = 0) ∧ (¬ ((τ 3304 (1024 * (N 16 0) + m)) < (τ 3304 (1024 * (N 16 0) + i))))))))), (5, .ref (L 33 (1024 * (N 16 0) + i))), (0, .ref (L 0 0)), (1, .ref (L 33 (1024 * (N 16 0) + m))), (2, .ref a), (3, .int (cd_bfL τ N m sn i)), (4, .int (nI i))] dX1_bestFor_224 (by decide) rfl ?_
              refine ga_iload X 0 dX1_bestFor_226 rfl ?_
              have J237 : ∀ (v237 : Int32), v237 = (if ((((sn i) = 0) ∧ (¬ ((τ 3305 (1024 * (N 16 0) + i)) ≤ 0) ∧ (((τ 3302 (1024 * (N 16 0) + i)) = (τ 3302 (1024 * (N 16 0) + m))) ∧ (¬ ((τ 3303 (1024 * (N 16 0) + i)) = (τ 3303 (1024 * (N 16 0) + m))) ∧ (¬ ((τ 3300 (1024 * (N 16 0) + i)) = (τ 3300 (1024 * (N 16 0) + m)))))))) ∧ ((((τ 3303 (1024 * (N 16 0) + m)) = 0) ∧ (¬ ((τ 3304 (1024 * (N 16 0) + i)) < (τ 3304 (1024 * (N 16 0) + m))))) ∨ (¬ ((τ 3303 (1024 * (N 16 0) + m)) = 0) ∧ (¬ ((τ 3304 (1024 * (N 16 0) + m)) < (τ 3304 (1024 * (N 16 0) + i))))))) ∧ (((cd_bfL τ N m sn i) = (-1)) ∨ ((((τ 3303 (1024 * (N 16 0) + m)) = 0) ∧ (¬ ((τ 3304 (1024 * (N 16 0) + i)) ≤ (τ 3304 (1024 * (N 16 0) + (cx (cd_bfL τ N m sn i))))))) ∨ (¬ ((τ 3303 (1024 * (N 16 0) + m)) = 0) ∧ (¬ ((τ 3304 (1024 * (N 16 0) + (cx (cd_bfL τ N m sn i)))) ≤ (τ 3304 (1024 * (N 16 0) + i))))))) then nI i else cd_bfL τ N m sn i) → ga Γ G h n 0 0 237 [(7, .int (bI (((((sn i) = 0) ∧ (¬ ((τ 3305 (1024 * (N 16 0) + i)) ≤ 0) ∧ (((τ 3302 (1024 * (N 16 0) + i)) = (τ 3302 (1024 * (N 16 0) + m))) ∧ (¬ ((τ 3303 (1024 * (N 16 0) + i)) = (τ 3303 (1024 * (N 16 0) + m))) ∧ (¬ ((τ 3300 (1024 * (N 16 0) + i)) = (τ 3300 (1024 * (N 16 0) + m)))))))) ∧ ((((τ 3303 (1024 * (N 16 0) + m)) = 0) ∧ (¬ ((τ 3304 (1024 * (N 16 0) + i)) < (τ 3304 (1024 * (N 16 0) + m))))) ∨ (¬ ((τ 3303 (1024 * (N 16 0) + m)) = 0) ∧ (¬ ((τ 3304 (1024 * (N 16 0) + m)) < (τ 3304 (1024 * (N 16 0) + i))))))) ∧ (((cd_bfL τ N m sn i) = (-1)) ∨ ((((τ 3303 (1024 * (N 16 0) + m)) = 0) ∧ (¬ ((τ 3304 (1024 * (N 16 0) + i)) ≤ (τ 3304 (1024 * (N 16 0) + (cx (cd_bfL τ N m sn i))))))) ∨ (¬ ((τ 3303 (1024 * (N 16 0) + m)) = 0) ∧ (¬ ((τ 3304 (1024 * (N 16 0) + (cx (cd_bfL τ N m sn i)))) ≤ (τ 3304 (1024 * (N 16 0) + i)))))))))), (6, .int (bI ((((sn i) = 0) ∧ (¬ ((τ 3305 (1024 * (N 16 0) + i)) ≤ 0) ∧ (((τ 3302 (1024 * (N 16 0) + i)) = (τ 3302 (1024 * (N 16 0) + m))) ∧ (¬ ((τ 3303 (1024 * (N 16 0) + i)) = (τ 3303 (1024 * (N 16 0) + m))) ∧ (¬ ((τ 3300 (1024 * (N 16 0) + i)) = (τ 3300 (1024 * (N 16 0) + m)))))))) ∧ ((((τ 3303 (1024 * (N 16 0) + m)) = 0) ∧ (¬ ((τ 3304 (1024 * (N 16 0) + i)) < (τ 3304 (1024 * (N 16 0) + m))))) ∨ (¬ ((τ 3303 (1024 * (N 16 0) + m)) = 0) ∧ (¬ ((τ 3304 (1024 * (N 16 0) + m)) < (τ 3304 (1024 * (N 16 0) + i))))))))), (5, .ref (L 33 (1024 * (N 16 0) + i))), (0, .ref (L 0 0)), (1, .ref (L 33 (1024 * (N 16 0) + m))), (2, .ref a), (3, .int (cd_bfL τ N m sn i)), (4, .int (nI i))] (.int v237 :: []) := by
                intro v237 ev237
                subst ev237
                refine ga_istore_n X [(3, .int (if ((((sn i) = 0) ∧ (¬ ((τ 3305 (1024 * (N 16 0) + i)) ≤ 0) ∧ (((τ 3302 (1024 * (N 16 0) + i)) = (τ 3302 (1024 * (N 16 0) + m))) ∧ (¬ ((τ 3303 (1024 * (N 16 0) + i)) = (τ 3303 (1024 * (N 16 0) + m))) ∧ (¬ ((τ 3300 (1024 * (N 16 0) + i)) = (τ 3300 (1024 * (N 16 0) + m)))))))) ∧ ((((τ 3303 (1024 * (N 16 0) + m)) = 0) ∧ (¬ ((τ 3304 (1024 * (N 16 0) + i)) < (τ 3304 (1024 * (N 16 0) + m))))) ∨ (¬ ((τ 3303 (1024 * (N 16 0) + m)) = 0) ∧ (¬ ((τ 3304 (1024 * (N 16 0) + m)) < (τ 3304 (1024 * (N 16 0) + i))))))) ∧ (((cd_bfL τ N m sn i) = (-1)) ∨ ((((τ 3303 (1024 * (N 16 0) + m)) = 0) ∧ (¬ ((τ 3304 (1024 * (N 16 0) + i)) ≤ (τ 3304 (1024 * (N 16 0) + (cx (cd_bfL τ N m sn i))))))) ∨ (¬ ((τ 3303 (1024 * (N 16 0) + m)) = 0) ∧ (¬ ((τ 3304 (1024 * (N 16 0) + (cx (cd_bfL τ N m sn i)))) ≤ (τ 3304 (1024 * (N 16 0) + i))))))) then nI i else cd_bfL τ N m sn i)), (7, .int (bI (((((sn i) = 0) ∧ (¬ ((τ 3305 (1024 * (N 16 0) + i)) ≤ 0) ∧ (((τ 3302 (1024 * (N 16 0) + i)) = (τ 3302 (1024 * (N 16 0) + m))) ∧ (¬ ((τ 3303 (1024 * (N 16 0) + i)) = (τ 3303 (1024 * (N 16 0) + m))) ∧ (¬ ((τ 3300 (1024 * (N 16 0) + i)) = (τ 3300 (1024 * (N 16 0) + m)))))))) ∧ ((((τ 3303 (1024 * (N 16 0) + m)) = 0) ∧ (¬ ((τ 3304 (1024 * (N 16 0) + i)) < (τ 3304 (1024 * (N 16 0) + m))))) ∨ (¬ ((τ 3303 (1024 * (N 16 0) + m)) = 0) ∧ (¬ ((τ 3304 (1024 * (N 16 0) + m)) < (τ 3304 (1024 * (N 16 0) + i))))))) ∧ (((cd_bfL τ N m sn i) = (-1)) ∨ ((((τ 3303 (1024 * (N 16 0) + m)) = 0) ∧ (¬ ((τ 3304 (1024 * (N 16 0) + i)) ≤ (τ 3304 (1024 * (N 16 0) + (cx (cd_bfL τ N m sn i))))))) ∨ (¬ ((τ 3303 (1024 * (N 16 0) + m)) = 0) ∧ (¬ ((τ 3304 (1024 * (N 16 0) + (cx (cd_bfL τ N m sn i)))) ≤ (τ 3304 (1024 * (N 16 0) + i)))))))))), (6, .int (bI ((((sn i) = 0) ∧ (¬ ((τ 3305 (1024 * (N 16 0) + i)) ≤ 0) ∧ (((τ 3302 (1024 * (N 16 0) + i)) = (τ 3302 (1024 * (N 16 0) + m))) ∧ (¬ ((τ 3303 (1024 * (N 16 0) + i)) = (τ 3303 (1024 * (N 16 0) + m))) ∧ (¬ ((τ 3300 (1024 * (N 16 0) + i)) = (τ 3300 (1024 * (N 16 0) + m)))))))) ∧ ((((τ 3303 (1024 * (N 16 0) + m)) = 0) ∧ (¬ ((τ 3304 (1024 * (N 16 0) + i)) < (τ 3304 (1024 * (N 16 0) + m))))) ∨ (¬ ((τ 3303 (1024 * (N 16 0) + m)) = 0) ∧ (¬ ((τ 3304 (1024 * (N 16 0) + m)) < (τ 3304 (1024 * (N 16 0) + i))))))))), (5, .ref (L 33 (1024 * (N 16 0) + i))), (0, .ref (L 0 0)), (1, .ref (L 33 (1024 * (N 16 0) + m))), (2, .ref a), (4, .int (nI i))] dX1_bestFor_237 rfl (by decide) rfl ?_
                refine ga_iinc X 7 [(4, .int (nI (i + 1))), (3, .int (if ((((sn i) = 0) ∧ (¬ ((τ 3305 (1024 * (N 16 0) + i)) ≤ 0) ∧ (((τ 3302 (1024 * (N 16 0) + i)) = (τ 3302 (1024 * (N 16 0) + m))) ∧ (¬ ((τ 3303 (1024 * (N 16 0) + i)) = (τ 3303 (1024 * (N 16 0) + m))) ∧ (¬ ((τ 3300 (1024 * (N 16 0) + i)) = (τ 3300 (1024 * (N 16 0) + m)))))))) ∧ ((((τ 3303 (1024 * (N 16 0) + m)) = 0) ∧ (¬ ((τ 3304 (1024 * (N 16 0) + i)) < (τ 3304 (1024 * (N 16 0) + m))))) ∨ (¬ ((τ 3303 (1024 * (N 16 0) + m)) = 0) ∧ (¬ ((τ 3304 (1024 * (N 16 0) + m)) < (τ 3304 (1024 * (N 16 0) + i))))))) ∧ (((cd_bfL τ N m sn i) = (-1)) ∨ ((((τ 3303 (1024 * (N 16 0) + m)) = 0) ∧ (¬ ((τ 3304 (1024 * (N 16 0) + i)) ≤ (τ 3304 (1024 * (N 16 0) + (cx (cd_bfL τ N m sn i))))))) ∨ (¬ ((τ 3303 (1024 * (N 16 0) + m)) = 0) ∧ (¬ ((τ 3304 (1024 * (N 16 0) + (cx (cd_bfL τ N m sn i)))) ≤ (τ 3304 (1024 * (N 16 0) + i))))))) then nI i else cd_bfL τ N m sn i)), (7, .int (bI (((((sn i) = 0) ∧ (¬ ((τ 3305 (1024 * (N 16 0) + i)) ≤ 0) ∧ (((τ 3302 (1024 * (N 16 0) + i)) = (τ 3302 (1024 * (N 16 0) + m))) ∧ (¬ ((τ 3303 (1024 * (N 16 0) + i)) = (τ 3303 (1024 * (N 16 0) + m))) ∧ (¬ ((τ 3300 (1024 * (N 16 0) + i)) = (τ 3300 (1024 * (N 16 0) + m)))))))) ∧ ((((τ 3303 (1024 * (N 16 0) + m)) = 0) ∧ (¬ ((τ 3304 (1024 * (N 16 0) + i)) < (τ 3304 (1024 * (N 16 0) + m))))) ∨ (¬ ((τ 3303 (1024 * (N 16 0) + m)) = 0) ∧ (¬ ((τ 3304 (1024 * (N 16 0) + m)) < (τ 3304 (1024 * (N 16 0) + i))))))) ∧ (((cd_bfL τ N m sn i) = (-1)) ∨ ((((τ 3303 (1024 * (N 16 0) + m)) = 0) ∧ (¬ ((τ 3304 (1024 * (N 16 0) + i)) ≤ (τ 3304 (1024 * (N 16 0) + (cx (cd_bfL τ N m sn i))))))) ∨ (¬ ((τ 3303 (1024 * (N 16 0) + m)) = 0) ∧ (¬ ((τ 3304 (1024 * (N 16 0) + (cx (cd_bfL τ N m sn i)))) ≤ (τ 3304 (1024 * (N 16 0) + i)))))))))), (6, .int (bI ((((sn i) = 0) ∧ (¬ ((τ 3305 (1024 * (N 16 0) + i)) ≤ 0) ∧ (((τ 3302 (1024 * (N 16 0) + i)) = (τ 3302 (1024 * (N 16 0) + m))) ∧ (¬ ((τ 3303 (1024 * (N 16 0) + i)) = (τ 3303 (1024 * (N 16 0) + m))) ∧ (¬ ((τ 3300 (1024 * (N 16 0) + i)) = (τ 3300 (1024 * (N 16 0) + m)))))))) ∧ ((((τ 3303 (1024 * (N 16 0) + m)) = 0) ∧ (¬ ((τ 3304 (1024 * (N 16 0) + i)) < (τ 3304 (1024 * (N 16 0) + m))))) ∨ (¬ ((τ 3303 (1024 * (N 16 0) + m)) = 0) ∧ (¬ ((τ 3304 (1024 * (N 16 0) + m)) < (τ 3304 (1024 * (N 16 0) + i))))))))), (5, .ref (L 33 (1024 * (N 16 0) + i))), (0, .ref (L 0 0)), (1, .ref (L 33 (1024 * (N 16 0) + m))), (2, .ref a)] dX1_bestFor_238 rfl (nI_1 i) (by decide) rfl ?_
                refine ga_goto X (tgt := 5) dX1_bestFor_241 (by decide) ?_
                refine ga_sub [5, 6, 7, 1, 0] rfl ?_
                exact ih5 (i + 1) _ _ (by omega) (by omega) ((cd_bfL_s τ N m sn i).symm) rfl
              refine ga_ifb_eq X (tgt := 236) dX1_bestFor_228 (by decide) (fun c_228 => ?_) (fun c_228 => ?_)
              · refine ga_iload_n X 6 dX1_bestFor_236 rfl rfl ?_
                exact J237 _ ((if_neg c_228).symm)
              · refine ga_iload X 7 dX1_bestFor_231 rfl ?_
                refine ga_goto X (tgt := 237) dX1_bestFor_233 (by decide) ?_
                exact J237 _ ((if_pos c_228).symm)
            refine ga_ifb_eq X (tgt := 223) dX1_bestFor_147 (by decide) (fun c_147 => ?_) (fun c_147 => ?_)
            · refine ga_iconst X (v := 0) dX1_bestFor_223 (by decide) ?_
              exact J224 _ ((bI_f (fun hh => c_147 hh.1)).symm)
            · refine ga_iload_n X 5 dX1_bestFor_150 rfl rfl ?_
              refine ga_iconst X (v := (-1)) dX1_bestFor_151 (by decide) ?_
              refine ga_icmp_eq X (tgt := 219) dX1_bestFor_152 (by decide) (fun c_152 => ?_) (fun c_152 => ?_)
              · refine ga_iconst X (v := 1) dX1_bestFor_219 (by decide) ?_
                refine ga_goto X (tgt := 224) dX1_bestFor_220 (by decide) ?_
                exact J224 _ ((bI_t ⟨c_147, (Or.inl c_152)⟩).symm)
              · obtain ⟨hjb, enb⟩ := bf_lt i (by omega) c_152
                have hjc : cx (cd_bfL τ N m sn i) < N 13 (N 16 0) := by omega
                refine ga_aload_n X 3 dX1_bestFor_155 rfl rfl ?_
                refine ga_getN X in_X10 (ci := 8) rfl 3 (by decide) q1151 rfl (hP.r33 (Nat.le_refl _) hm) rfl dX1_bestFor_156 ?_
                refine ga_if_eq X (tgt := 192) dX1_bestFor_159 (by decide) (fun c_159 => ?_) (fun c_159 => ?_)
                · refine ga_aload X 1 dX1_bestFor_192 rfl ?_
                  refine ga_getN X in_X10 (ci := 8) rfl 4 (by decide) q1153 rfl (hP.r33 (Nat.le_refl _) (hP.o13 hj_5)) rfl dX1_bestFor_194 ?_
                  refine ga_aload_n X 2 dX1_bestFor_197 rfl rfl ?_
                  refine ga_get X in_X1 (ci := 0) rfl 1 (by decide) q189 rfl hP.r0 rfl dX1_bestFor_198 ?_
                  refine ga_getN X in_X2 (ci := 1) rfl 3 (by decide) q150 rfl (hP.r36 (Nat.le_refl _)) rfl dX1_bestFor_201 ?_
                  refine ga_iload_n X 5 dX1_bestFor_204 rfl rfl ?_
                  have hj_8 : cx (cd_bfL τ N m sn i) < N 13 (N 16 0) := hjc
                  obtain ⟨f_8, hE_8, hk_8, hb_8, hf_8, he_8⟩ := hP.r23 (Nat.le_refl _) (by omega)
                  refine ga_st (st' := .int (nI (cx (cd_bfL τ N m sn i))) :: .ref (L 13 (N 16 0)) :: .int (τ 3304 (1024 * (N 16 0) + i)) :: []) (by rw [← enb]) ?_
                  refine ga_callF X Y (jm_get _ X.tr G (L 13 (N 16 0)) (gc_e G L N 13 (N 16 0)) (N 13 (N 16 0)) (N 23 (N 16 0)) (cx (cd_bfL τ N m sn i)) _ (τ 1300 (N 16 0)) f_8 _ _ (hP.r13 (Nat.le_refl _)) hE_8 hj_8 hk_8 (by omega) (hf_8 (cx (cd_bfL τ N m sn i)) hj_8)) wX1_91 (ci := 11) rfl (hP.r13 (Nat.le_refl _)) ⟨Nat.le_of_ble_eq_true rfl, Nat.le_of_ble_eq_true rfl⟩ ⟨(by first | decide | omega | (dsimp only; omega)), (by first | decide | omega | (dsimp only; omega))⟩ rfl (Nat.le_of_ble_eq_true rfl) dX1_bestFor_205 (fun v9 h9 n9 hq _ => ?_) (fun _ _ _ q _ => q.elim)
                  obtain ⟨rfl, hq2, hq3⟩ := hq
                  rw [hq2, hq3]
                  show ga Γ G _ _ _ _ 210 [(6, .int (bI ((((sn i) = 0) ∧ (¬ ((τ 3305 (1024 * (N 16 0) + i)) ≤ 0) ∧ (((τ 3302 (1024 * (N 16 0) + i)) = (τ 3302 (1024 * (N 16 0) + m))) ∧ (¬ ((τ 3303 (1024 * (N 16 0) + i)) = (τ 3303 (1024 * (N 16 0) + m))) ∧ (¬ ((τ 3300 (1024 * (N 16 0) + i)) = (τ 3300 (1024 * (N 16 0) + m)))))))) ∧ ((((τ 3303 (1024 * (N 16 0) + m)) = 0) ∧ (¬ ((τ 3304 (1024 * (N 16 0) + i)) < (τ 3304 (1024 * (N 16 0) + m))))) ∨ (¬ ((τ 3303 (1024 * (N 16 0) + m)) = 0) ∧ (¬ ((τ 3304 (1024 * (N 16 0) + m)) < (τ 3304 (1024 * (N 16 0) + i))))))))), (5, .ref (L 33 (1024 * (N 16 0) + i))), (0, .ref (L 0 0)), (1, .ref (L 33 (1024 * (N 16 0) + m))), (2, .ref a), (3, .int (cd_bfL τ N m sn i)), (4, .int (nI i))] (.ref (L 33 (1024 * (N 16 0) + (cx (cd_bfL τ N m sn i)))) :: .int (τ 3304 (1024 * (N 16 0) + i)) :: [])
                  refine ga_cast X (ci := 8) rfl q1135 (hP.r33 (Nat.le_refl _) (hP.o13 hj_8)) dX1_bestFor_210 ?_
                  refine ga_getN X in_X10 (ci := 8) rfl 4 (by decide) q1153 rfl (hP.r33 (Nat.le_refl _) (hP.o13 hj_8)) rfl dX1_bestFor_213 ?_
                  refine ga_icmp_le X (tgt := 223) dX1_bestFor_216 (by decide) (fun c_216 => ?_) (fun c_216 => ?_)
                  · refine ga_iconst X (v := 0) dX1_bestFor_223 (by decide) ?_
                    exact J224 _ ((bI_f (fun hh => (fun hh => hh.elim c_152 (fun hh => hh.elim (fun h2 => (fun hh => hh c_216) h2.2) (fun h2 => h2.1 c_159))) hh.2)).symm)
                  · refine ga_iconst X (v := 1) dX1_bestFor_219 (by decide) ?_
                    refine ga_goto X (tgt := 224) dX1_bestFor_220 (by decide) ?_
                    exact J224 _ ((bI_t ⟨c_147, (Or.inr (Or.inl ⟨c_159, c_216⟩))⟩).symm)
                · refine ga_aload X 1 dX1_bestFor_162 rfl ?_
                  refine ga_getN X in_X10 (ci := 8) rfl 4 (by decide) q1153 rfl (hP.r33 (Nat.le_refl _) (hP.o13 hj_5)) rfl dX1_bestFor_164 ?_
                  refine ga_aload_n X 2 dX1_bestFor_167 rfl rfl ?_
                  refine ga_get X in_X1 (ci := 0) rfl 1 (by decide) q189 rfl hP.r0 rfl dX1_bestFor_168 ?_
                  refine ga_getN X in_X2 (ci := 1) rfl 3 (by decide) q150 rfl (hP.r36 (Nat.le_refl _)) rfl dX1_bestFor_171 ?_
                  refine ga_iload_n X 5 dX1_bestFor_174 rfl rfl ?_
                  have hj_9 : cx (cd_bfL τ N m sn i) < N 13 (N 16 0) := hjc
                  obtain ⟨f_9, hE_9, hk_9, hb_9, hf_9, he_9⟩ := hP.r23 (Nat.le_refl _) (by omega)
                  refine ga_st (st' := .int (nI (cx (cd_bfL τ N m sn i))) :: .ref (L 13 (N 16 0)) :: .int (τ 3304 (1024 * (N 16 0) + i)) :: []) (by rw [← enb]) ?_
                  refine ga_callF X Y (jm_get _ X.tr G (L 13 (N 16 0)) (gc_e G L N 13 (N 16 0)) (N 13 (N 16 0)) (N 23 (N 16 0)) (cx (cd_bfL τ N m sn i)) _ (τ 1300 (N 16 0)) f_9 _ _ (hP.r13 (Nat.le_refl _)) hE_9 hj_9 hk_9 (by omega) (hf_9 (cx (cd_bfL τ N m sn i)) hj_9)) wX1_91 (ci := 11) rfl (hP.r13 (Nat.le_refl _)) ⟨Nat.le_of_ble_eq_true rfl, Nat.le_of_ble_eq_true rfl⟩ ⟨(by first | decide | omega | (dsimp only; omega)), (by first | decide | omega | (dsimp only; omega))⟩ rfl (Nat.le_of_ble_eq_true rfl) dX1_bestFor_175 (fun v9 h9 n9 hq _ => ?_) (fun _ _ _ q _ => q.elim)
                  obtain ⟨rfl, hq2, hq3⟩ := hq
                  rw [hq2, hq3]
                  show ga Γ G _ _ _ _ 180 [(6, .int (bI ((((sn i) = 0) ∧ (¬ ((τ 3305 (1024 * (N 16 0) + i)) ≤ 0) ∧ (((τ 3302 (1024 * (N 16 0) + i)) = (τ 3302 (1024 * (N 16 0) + m))) ∧ (¬ ((τ 3303 (1024 * (N 16 0) + i)) = (τ 3303 (1024 * (N 16 0) + m))) ∧ (¬ ((τ 3300 (1024 * (N 16 0) + i)) = (τ 3300 (1024 * (N 16 0) + m)))))))) ∧ ((((τ 3303 (1024 * (N 16 0) + m)) = 0) ∧ (¬ ((τ 3304 (1024 * (N 16 0) + i)) < (τ 3304 (1024 * (N 16 0) + m))))) ∨ (¬ ((τ 3303 (1024 * (N 16 0) + m)) = 0) ∧ (¬ ((τ 3304 (1024 * (N 16 0) + m)) < (τ 3304 (1024 * (N 16 0) + i))))))))), (5, .ref (L 33 (1024 * (N 16 0) + i))), (0, .ref (L 0 0)), (1, .ref (L 33 (1024 * (N 16 0) + m))), (2, .ref a), (3, .int (cd_bfL τ N m sn i)), (4, .int (nI i))] (.ref (L 33 (1024 * (N 16 0) + (cx (cd_bfL τ N m sn i)))) :: .int (τ 3304 (1024 * (N 16 0) + i)) :: [])
                  refine ga_cast X (ci := 8) rfl q1135 (hP.r33 (Nat.le_refl _) (hP.o13 hj_9)) dX1_bestFor_180 ?_
                  refine ga_getN X in_X10 (ci := 8) rfl 4 (by decide) q1153 rfl (hP.r33 (Nat.le_refl _) (hP.o13 hj_9)) rfl dX1_bestFor_183 ?_
                  refine ga_icmp_ge X (tgt := 223) dX1_bestFor_186 (by decide) (fun c_186 => ?_) (fun c_186 => ?_)
                  · refine ga_iconst X (v := 0) dX1_bestFor_223 (by decide) ?_
                    exact J224 _ ((bI_f (fun hh => (fun hh => hh.elim c_152 (fun hh => hh.elim (fun h2 => c_159 h2.1) (fun h2 => (fun hh => hh c_186) h2.2))) hh.2)).symm)
                  · refine ga_goto X (tgt := 219) dX1_bestFor_189 (by decide) ?_
                    refine ga_iconst X (v := 1) dX1_bestFor_219 (by decide) ?_
                    refine ga_goto X (tgt := 224) dX1_bestFor_220 (by decide) ?_
                    exact J224 _ ((bI_t ⟨c_147, (Or.inr (Or.inr ⟨c_159, c_186⟩))⟩).symm)
          refine ga_ifb_eq X (tgt := 142) dX1_bestFor_101 (by decide) (fun c_101 => ?_) (fun c_101 => ?_)
          · refine ga_iconst X (v := 0) dX1_bestFor_142 (by decide) ?_
            exact J143 _ ((bI_f (fun hh => c_101 hh.1)).symm)
          · refine ga_aload_n X 3 dX1_bestFor_104 rfl rfl ?_
            refine ga_getN X in_X10 (ci := 8) rfl 3 (by decide) q1151 rfl (hP.r33 (Nat.le_refl _) hm) rfl dX1_bestFor_105 ?_
            refine ga_if_eq X (tgt := 126) dX1_bestFor_108 (by decide) (fun c_108 => ?_) (fun c_108 => ?_)
            · refine ga_aload X 1 dX1_bestFor_126 rfl ?_
              refine ga_getN X in_X10 (ci := 8) rfl 4 (by decide) q1153 rfl (hP.r33 (Nat.le_refl _) (hP.o13 hj_5)) rfl dX1_bestFor_128 ?_
              refine ga_aload_n X 3 dX1_bestFor_131 rfl rfl ?_
              refine ga_getN X in_X10 (ci := 8) rfl 4 (by decide) q1153 rfl (hP.r33 (Nat.le_refl _) hm) rfl dX1_bestFor_132 ?_
              refine ga_icmp_lt X (tgt := 142) dX1_bestFor_135 (by decide) (fun c_135 => ?_) (fun c_135 => ?_)
              · refine ga_iconst X (v := 0) dX1_bestFor_142 (by decide) ?_
                exact J143 _ ((bI_f (fun hh => (fun hh => hh.elim (fun h2 => (fun hh => hh c_135) h2.2) (fun h2 => h2.1 c_108)) hh.2)).symm)
              · refine ga_iconst X (v := 1) dX1_bestFor_138 (by decide) ?_
                refine ga_goto X (tgt := 143) dX1_bestFor_139 (by decide) ?_
                exact J143 _ ((bI_t ⟨c_101, (Or.inl ⟨c_108, c_135⟩)⟩).symm)
            · refine ga_aload X 1 dX1_bestFor_111 rfl ?_
              refine ga_getN X in_X10 (ci := 8) rfl 4 (by decide) q1153 rfl (hP.r33 (Nat.le_refl _) (hP.o13 hj_5)) rfl dX1_bestFor_113 ?_
              refine ga_aload_n X 3 dX1_bestFor_116 rfl rfl ?_
              refine ga_getN X in_X10 (ci := 8) rfl 4 (by decide) q1153 rfl (hP.r33 (Nat.le_refl _) hm) rfl dX1_bestFor_117 ?_
              refine ga_icmp_gt X (tgt := 142) dX1_bestFor_120 (by decide) (fun c_120 => ?_) (fun c_120 => ?_)
              · refine ga_iconst X (v := 0) dX1_bestFor_142 (by decide) ?_
                exact J143 _ ((bI_f (fun hh => (fun hh => hh.elim (fun h2 => c_108 h2.1) (fun h2 => (fun hh => hh c_120) h2.2)) hh.2)).symm)
              · refine ga_goto X (tgt := 138) dX1_bestFor_123 (by decide) ?_
                refine ga_iconst X (v := 1) dX1_bestFor_138 (by decide) ?_
                refine ga_goto X (tgt := 143) dX1_bestFor_139 (by decide) ?_
                exact J143 _ ((bI_t ⟨c_101, (Or.inr ⟨c_108, c_120⟩)⟩).symm)
        refine ga_if_ne X (tgt := 96) dX1_bestFor_45 (by decide) (fun c_45 => ?_) (fun c_45 => ?_)
        · refine ga_iconst X (v := 0) dX1_bestFor_96 (by decide) ?_
          exact J97 _ ((bI_f (fun hh => c_45 hh.1)).symm)
        · refine ga_aload X 0 dX1_bestFor_48 rfl ?_
          refine ga_getN X in_X10 (ci := 8) rfl 5 (by decide) q1155 rfl (hP.r33 (Nat.le_refl _) (hP.o13 hj_5)) rfl dX1_bestFor_50 ?_
          refine ga_if_le X (tgt := 96) dX1_bestFor_53 (by decide) (fun c_53 => ?_) (fun c_53 => ?_)
          · refine ga_iconst X (v := 0) dX1_bestFor_96 (by decide) ?_
            exact J97 _ ((bI_f (fun hh => (fun hh => hh.1 c_53) hh.2)).symm)
          · refine ga_aload X 0 dX1_bestFor_56 rfl ?_
            refine ga_getN X in_X10 (ci := 8) rfl 2 (by decide) q1149 rfl (hP.r33 (Nat.le_refl _) (hP.o13 hj_5)) rfl dX1_bestFor_58 ?_
            refine ga_aload_n X 2 dX1_bestFor_61 rfl rfl ?_
            refine ga_getN X in_X10 (ci := 8) rfl 2 (by decide) q1149 rfl (hP.r33 (Nat.le_refl _) hm) rfl dX1_bestFor_62 ?_
            refine ga_icmp_ne X (tgt := 96) dX1_bestFor_65 (by decide) (fun c_65 => ?_) (fun c_65 => ?_)
            · refine ga_iconst X (v := 0) dX1_bestFor_96 (by decide) ?_
              exact J97 _ ((bI_f (fun hh => (fun hh => (fun hh => c_65 hh.1) hh.2) hh.2)).symm)
            · refine ga_aload X 0 dX1_bestFor_68 rfl ?_
              refine ga_getN X in_X10 (ci := 8) rfl 3 (by decide) q1151 rfl (hP.r33 (Nat.le_refl _) (hP.o13 hj_5)) rfl dX1_bestFor_70 ?_
              refine ga_aload_n X 2 dX1_bestFor_73 rfl rfl ?_
              refine ga_getN X in_X10 (ci := 8) rfl 3 (by decide) q1151 rfl (hP.r33 (Nat.le_refl _) hm) rfl dX1_bestFor_74 ?_
              refine ga_icmp_eq X (tgt := 96) dX1_bestFor_77 (by decide) (fun c_77 => ?_) (fun c_77 => ?_)
              · refine ga_iconst X (v := 0) dX1_bestFor_96 (by decide) ?_
                exact J97 _ ((bI_f (fun hh => (fun hh => (fun hh => (fun hh => hh.1 c_77) hh.2) hh.2) hh.2)).symm)
              · refine ga_aload X 0 dX1_bestFor_80 rfl ?_
                refine ga_getN X in_X10 (ci := 8) rfl 0 (by decide) q1143 rfl (hP.r33 (Nat.le_refl _) (hP.o13 hj_5)) rfl dX1_bestFor_82 ?_
                refine ga_aload_n X 2 dX1_bestFor_85 rfl rfl ?_
                refine ga_getN X in_X10 (ci := 8) rfl 0 (by decide) q1143 rfl (hP.r33 (Nat.le_refl _) hm) rfl dX1_bestFor_86 ?_
                refine ga_icmp_eq X (tgt := 96) dX1_bestFor_89 (by decide) (fun c_89 => ?_) (fun c_89 => ?_)
                · refine ga_iconst X (v := 0) dX1_bestFor_96 (by decide) ?_
                  exact J97 _ ((bI_f (fun hh => (fun hh => (fun hh => (fun hh => (fun hh => hh c_89) hh.2) hh.2) hh.2) hh.2)).symm)
                · refine ga_iconst X (v := 1) dX1_bestFor_92 (by decide) ?_
                  refine ga_goto X (tgt := 97) dX1_bestFor_93 (by decide) ?_
                  exact J97 _ ((bI_t ⟨c_45, ⟨c_53, ⟨c_65, ⟨c_77, c_89⟩⟩⟩⟩).symm)
  refine ga_sub [2, 3, 4, 1, 0] rfl ?_
  exact L5 (N 13 (N 16 0) + 1) 0 _ _ (by omega) (by omega) rfl rfl
