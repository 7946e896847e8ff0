set_option maxRecDepth 100000
theorem lo_c {t : gm_S} : ∀ i : Nat, i ≤ 6 → cd_lowest1 t i = -1 ∨ ∃ j, j < 6 ∧ cd_lowest1 t i = nI j ∧ t 600 j = 0 := by
  intro i
  induction i with
  | zero => intro _; exact Or.inl rfl
  | succ i ih =>
    intro hi
    rw [cd_lowest1_s]
    split
    · rename_i hc
      split
      · exact ih (by omega)
      · have hd : ¬ nI 5 - nI i < 0 := fun z => by
          have := (dn5 i (by omega)).1 z
          omega
        exact Or.inr ⟨5 - i, by omega, ((dn5 i (by omega)).2 hd).2, hc⟩
    · exact ih (by omega)
theorem lo_ix {t : gm_S} (h : ¬ cd_lowest t = -1) : cx (cd_lowest t) < 6 ∧ cd_lowest t = nI (cx (cd_lowest t)) ∧ t 600 (cx (cd_lowest t)) = 0 := by
  obtain ⟨j, hj, e, h0⟩ := (lo_c (t := t) 6 (by omega)).resolve_left h
  have e2 : cd_lowest t = nI j := e
  have : cx (cd_lowest t) = j := by rw [e2]; exact nI_clamp (by omega)
  rw [this]
  exact ⟨hj, e2, h0⟩
def gc_nf (σ : gm_S) : Nat → Nat
  | 0 => 0
  | k + 1 => gc_nf σ k + (if σ 600 k = 0 then 1 else 0)
theorem gc_nf_le (σ : gm_S) (k : Nat) : gc_nf σ k ≤ k := by
  induction k with
  | zero => exact Nat.le_refl _
  | succ k ih => unfold gc_nf; split <;> omega
theorem gc_nf_eq {σ τ : gm_S} {k : Nat} (h : ∀ j, j < k → τ 600 j = σ 600 j) : gc_nf τ k = gc_nf σ k := by
  induction k with
  | zero => rfl
  | succ k ih => unfold gc_nf; rw [ih (fun j hj => h j (by omega)), h k (by omega)]
theorem gc_nf_up {σ τ : gm_S} {j : Nat} (h : τ 600 = upd (σ 600) j 1) (h0 : σ 600 j = 0) : ∀ k, j < k → gc_nf τ k + 1 = gc_nf σ k := by
  intro k
  induction k with
  | zero => intro q; exact absurd q (by omega)
  | succ k ih =>
    intro hj
    unfold gc_nf
    by_cases e : j = k
    · subst e
      rw [gc_nf_eq (σ := σ) (fun i hi => by rw [h]; simp [upd, Nat.ne_of_lt hi]), h, h0]
      simp [upd]
    · have := ih (by omega)
      rw [h]
      rw [show upd (σ 600) j 1 k = σ 600 k from by simp [upd, Ne.symm e]]
      split <;> omega
def cd_faA (t : gm_S) : Nat → Int64
  | 0 => 0
  | i + 1 => (cd_faA t i) + (if (t 600 i) = 0 then (t 500 i).toInt64 else 0)
theorem cd_faA_s (t : gm_S) (i : Nat) : cd_faA t (i + 1) = (cd_faA t i) + (if (t 600 i) = 0 then (t 500 i).toInt64 else 0) := rfl
def cd_faB (t : gm_S) (lo : Int32) (al : Int64) : Nat → Int32 × gm_S
  | 0 => (lo, t)
  | i + 1 => (((cd_faB t lo al i).1) - (if (t 600 i) = 0 then ((lo.toInt64 * ((t 500 i).toInt64)) / al).toInt32 else 0), up2 ((cd_faB t lo al i).2) 400 i ((((cd_faB t lo al i).2) 400 i) - (if (t 600 i) = 0 then ((lo.toInt64 * ((t 500 i).toInt64)) / al).toInt32 else 0)))
theorem cd_faB_s (t : gm_S) (lo : Int32) (al : Int64) (i : Nat) : cd_faB t lo al (i + 1) = (((cd_faB t lo al i).1) - (if (t 600 i) = 0 then ((lo.toInt64 * ((t 500 i).toInt64)) / al).toInt32 else 0), up2 ((cd_faB t lo al i).2) 400 i ((((cd_faB t lo al i).2) 400 i) - (if (t 600 i) = 0 then ((lo.toInt64 * ((t 500 i).toInt64)) / al).toInt32 else 0))) := rfl
theorem cd_faB_keep (t : gm_S) (lo : Int32) (al : Int64) (i k9 : Nat) (h400 : k9 ≠ 400) : (cd_faB t lo al i).2 k9 = t k9 := by
  induction i with
  | zero => rfl
  | succ i ih => simp only [cd_faB, gc_ite, up2_n h400, ih, ite_self]
def cu_failB  (m : Int32) (t : gm_S) : gm_S := up2 (if ¬ gl_c (cd_faA (up2 (up2 t 400 (cx (cd_lowest t)) 0) 600 (cx (cd_lowest t)) 1) 6) 0 ≤ 0 then (cd_faB (up2 (up2 t 400 (cx (cd_lowest t)) 0) 600 (cx (cd_lowest t)) 1) (-(t 400 (cx (cd_lowest t)))) (cd_faA (up2 (up2 t 400 (cx (cd_lowest t)) 0) 600 (cx (cd_lowest t)) 1) 6) 6).2 else up2 (up2 t 400 (cx (cd_lowest t)) 0) 600 (cx (cd_lowest t)) 1) 0 0 ((t 0 0) - (if ¬ gl_c (cd_faA (up2 (up2 t 400 (cx (cd_lowest t)) 0) 600 (cx (cd_lowest t)) 1) 6) 0 ≤ 0 then ((cd_faB (up2 (up2 t 400 (cx (cd_lowest t)) 0) 600 (cx (cd_lowest t)) 1) (-(t 400 (cx (cd_lowest t)))) (cd_faA (up2 (up2 t 400 (cx (cd_lowest t)) 0) 600 (cx (cd_lowest t)) 1) 6) 6).1) else -(t 400 (cx (cd_lowest t)))))
theorem cu_failB_keep  (m : Int32) (t : gm_S) (k9 : Nat) (h0 : k9 ≠ 0) (h400 : k9 ≠ 400) (h600 : k9 ≠ 600) : cu_failB m t k9 = t k9 := by
  unfold cu_failB
  simp only [gc_ite, up2_n h0, up2_n h400, up2_n h600, ite_self, cd_faB_keep _ _ _ _ _ h400]
theorem fb_6 (m : Int32) (t : gm_S) : cu_failB m t 600 = upd (t 600) (cx (cd_lowest t)) 1 := by
  unfold cu_failB
  simp only [gc_ite, up2_n (show (600 : Nat) ≠ 0 by decide), cd_faB_keep _ _ _ _ _ (show (600 : Nat) ≠ 400 by decide), up2_s, up2_n (show (600 : Nat) ≠ 400 by decide), ite_self]
def cd_failW  : Nat → Int32 → gm_S → Int32 × gm_S
  | 0, m, t => (m, t)
  | fu + 1, m, t => if cd_lowest t = -1 then (m, t) else cd_failW  fu (m + 1) (cu_failB m t)
theorem cd_failW_s  (fu : Nat) (m : Int32) (t : gm_S) : cd_failW  (fu + 1) m t = if cd_lowest t = -1 then (m, t) else cd_failW  fu (m + 1) (cu_failB m t) := rfl
theorem cd_failW_keep  (fu : Nat) (m : Int32) (t : gm_S) (k9 : Nat) (h0 : k9 ≠ 0) (h400 : k9 ≠ 400) (h600 : k9 ≠ 600) : (cd_failW  fu m t).2 k9 = t k9 := by
  induction fu generalizing m t with
  | zero => rfl
  | succ fu ih =>
    rw [cd_failW_s]
    split
    · rfl
    · rw [ih]; exact cu_failB_keep  m t k9 h0 h400 h600
def ct_fail (τ : gm_S) (N : gc_L) : Int32 := 0
def cu_fail (τ : gm_S) (N : gc_L) : gm_S := (cd_failW  7 0 τ).2
def cd_fail (τ : gm_S) (N : gc_L) : Int32 := (cd_failW  7 0 τ).1
set_option maxHeartbeats 4000000 in
theorem cm_fail (l : Launch) (hl : l.stackTraces = false) (G : ga_X) (L N : gc_L) (τ : gm_S)  : gs_C l G yX1_fail cX1_fail 9 (some FieldType.int) ({ frames := 1, cells := 0, slots := 0, locals := 22 } : Room) [.ref (L 0 0)] L N τ (ct_fail τ N) (some (.int (cd_fail τ N))) (cu_fail τ N) := by
  refine gs_start RX1 hl rfl (by decide) (Nat.le_of_ble_eq_true rfl) (fun Γ h1 h n0 n1 n e X Y hP hn hF hn1 hn01 hxt => ?_)
  subst e
  show ga Γ G h n 0 0 0 [(0, .ref (L 0 0))] []
  refine ga_iconst X (v := 0) dX1_fail_0 (by decide) ?_
  refine ga_istore_n X [(1, .int 0), (0, .ref (L 0 0))] dX1_fail_1 rfl (by decide) rfl ?_
  refine ga_aload_n X 1 dX1_fail_2 rfl rfl ?_
  refine ga_callV X Y (cm_lowest _ X.tr G L N τ _ _ _ hP hn) wX1_414 (ci := 0) rfl hP.r0 ⟨Nat.le_of_ble_eq_true rfl, Nat.le_of_ble_eq_true rfl⟩ ⟨(by first | decide | omega | (dsimp only; omega)), (by first | decide | omega | (dsimp only; omega))⟩ rfl (Nat.le_of_ble_eq_true rfl) dX1_fail_3 (fun v9 h9 n9 hq _ => ?_) (fun _ _ _ q _ => q.elim)
  obtain ⟨rfl, hq2, hq3⟩ := hq
  rw [hq2, hq3]
  refine ga_widen (k2 := 0) (n2 := 0) (by first | decide | omega | (dsimp only; omega)) (by first | decide | omega | (dsimp only; omega)) ?_
  show ga Γ G _ _ _ _ 6 [(1, .int 0), (0, .ref (L 0 0))] (.int (cd_lowest τ) :: [])
  refine ga_istore_n X [(2, .int (cd_lowest τ)), (1, .int 0), (0, .ref (L 0 0))] dX1_fail_6 rfl (by decide) rfl ?_
  have hF : gc_V1 L N n0 n1 h1 h := gc_V1.of hF
  have L7 : ∀ (fu : Nat) (m : Int32) (t : gm_S) (h : ga_H) (n : Nat) (x1 : Int32) (x2 : Int32), gc_nf t 6 < fu → x1 = m → x2 = (cd_lowest t) → cd_failW  7 0 τ = cd_failW  fu m t → gc_P G L N t n0 h → n0 ≤ n → gc_V1 L N n0 n1 h1 h → n1 ≤ n → ga Γ G h n 0 0 7 [(0, .ref (L 0 0)), (1, .int x1), (2, .int x2)] ([]) := by
    intro fu
    induction fu with
    | zero => intro m t h n x1 x2 hinv; exact absurd hinv (by omega)
    | succ fu ih7 =>
      intro m t h n x1 x2 hinv e1 e2 hR7 hP hn hF hn1 
      replace hR7 := hR7.trans (cd_failW_s  fu m t)
      rw [e1]
      rw [e2]
      refine ga_iload_n X 2 dX1_fail_7 rfl rfl ?_
      refine ga_iconst X (v := (-1)) dX1_fail_8 (by decide) ?_
      refine ga_icmp_eq X (tgt := 178) dX1_fail_9 (by decide) (fun c_9 => ?_) (fun c_9 => ?_)
      · rw [if_pos c_9] at hR7
        have ex_m : m = (cd_failW  7 0 τ).1 := by rw [hR7]
        have ex_t : t = (cd_failW  7 0 τ).2 := by rw [hR7]
        rw [ex_t] at hP
        refine ga_lv (lv' := [(0, .ref (L 0 0)), (1, .int ((cd_failW  7 0 τ).1)), (2, .int (cd_lowest ((cd_failW  7 0 τ).2)))]) (by rw [← ex_m, ← ex_t]) ?_
        refine ga_iload_n X 1 dX1_fail_178 rfl rfl ?_
        exact ga_iret X Y dX1_fail_179 (by first | decide | omega | (dsimp only; omega)) (by first | decide | omega | (dsimp only; omega)) ⟨rfl, congrArg (fun z => some (Value.int z)) (show ((cd_failW  7 0 τ).1) = cd_fail τ N from by unfold cd_fail; exact (rfl).symm), hn1, (show gc_P G L N (cu_fail τ N) n0 h from (show ((cd_failW  7 0 τ).2) = cu_fail τ N from by unfold cu_fail; exact (rfl).symm) ▸ hP), hF.1, hF.2⟩
      · replace hR7 := hR7.trans (by first | exact if_neg c_9 | exact if_neg (fun z => c_9 z))
        obtain ⟨hj6, enf, hj0⟩ := lo_ix c_9
        refine ga_aload_n X 0 dX1_fail_12 rfl rfl ?_
        refine ga_get X in_X1 (ci := 0) rfl 3 (by decide) q191 rfl hP.r0 rfl dX1_fail_13 ?_
        refine ga_iload_n X 2 dX1_fail_16 rfl rfl ?_
        refine ga_iald X (cx (cd_lowest t)) enf (by omega) (by decide) hP.r4 dX1_fail_17 ?_
        refine ga_ineg X dX1_fail_18 ?_
        refine ga_istore_n X [(3, .int (-(t 400 (cx (cd_lowest t))))), (0, .ref (L 0 0)), (1, .int m), (2, .int (cd_lowest t))] dX1_fail_19 rfl (by decide) rfl ?_
        refine ga_aload_n X 1 dX1_fail_20 rfl rfl ?_
        refine ga_get X in_X1 (ci := 0) rfl 3 (by decide) q191 rfl hP.r0 rfl dX1_fail_21 ?_
        refine ga_iload_n X 3 dX1_fail_24 rfl rfl ?_
        refine ga_iconst X (v := 0) dX1_fail_25 (by decide) ?_
        refine ga_iast X (cx (cd_lowest t)) enf (by omega) (by decide) hP.r4 (hP.A hP.l4) dX1_fail_26 ?_
        refine gs_w (P := fun h => ga Γ G h n 0 0 27 [(3, .int (-(t 400 (cx (cd_lowest t))))), (0, .ref (L 0 0)), (1, .int m), (2, .int (cd_lowest t))] ([])) (hP.up1 400 (cx (cd_lowest t)) 0 (k := 4) (i := 0) rfl rfl hP.l4 ⟨rfl, congrArg (ga_I G 6) up2_s.symm⟩) hP.l4 hF (fun h hP hF hk => ?_)
        refine ga_aload_n X 1 dX1_fail_27 rfl rfl ?_
        refine ga_get X in_X1 (ci := 0) rfl 5 (by decide) q193 rfl hP.r0 rfl dX1_fail_28 ?_
        refine ga_iload_n X 3 dX1_fail_31 rfl rfl ?_
        refine ga_iconst X (v := 1) dX1_fail_32 (by decide) ?_
        refine ga_zast X (cx (cd_lowest t)) enf (by omega) (by decide) rfl hP.r6.1 (hP.A hP.l6) dX1_fail_33 ?_
        refine gs_w (P := fun h => ga Γ G h n 0 0 34 [(3, .int (-(t 400 (cx (cd_lowest t))))), (0, .ref (L 0 0)), (1, .int m), (2, .int (cd_lowest t))] ([])) (hP.up1 600 (cx (cd_lowest t)) 1 (k := 6) (i := 0) rfl rfl hP.l6 ⟨rfl, congrArg (ga_Z G 6) up2_s.symm, fun z hz => by rw [up2_at]; split; exact Or.inr rfl; exact hP.r6.2 z hz⟩) hP.l6 hF (fun h hP hF hk => ?_)
        refine ga_iinc X 2 [(1, .int (m + 1)), (3, .int (-(t 400 (cx (cd_lowest t))))), (0, .ref (L 0 0)), (2, .int (cd_lowest t))] dX1_fail_34 rfl rfl (by decide) rfl ?_
        refine ga_lconst X (v := 0) dX1_fail_37 (by decide) ?_
        refine ga_lstore X [(4, .long 0), (1, .int (m + 1)), (3, .int (-(t 400 (cx (cd_lowest t))))), (0, .ref (L 0 0)), (2, .int (cd_lowest t))] dX1_fail_38 (by decide) rfl ?_
        refine ga_iconst X (v := 0) dX1_fail_40 (by decide) ?_
        refine ga_istore X [(6, .int 0), (4, .long 0), (1, .int (m + 1)), (3, .int (-(t 400 (cx (cd_lowest t))))), (0, .ref (L 0 0)), (2, .int (cd_lowest t))] dX1_fail_41 (by decide) rfl ?_
        have L43 : ∀ (fu i : Nat) (x4 : Int64) (x6 : Int32), i ≤ 6 → 6 < i + fu → x4 = (cd_faA (up2 (up2 t 400 (cx (cd_lowest t)) 0) 600 (cx (cd_lowest t)) 1) i) → x6 = (nI i) → ga Γ G h n 0 0 43 [(0, .ref (L 0 0)), (1, .int (m + 1)), (2, .int (cd_lowest t)), (3, .int (-(t 400 (cx (cd_lowest t))))), (4, .long x4), (6, .int x6)] ([]) := by
          intro fu
          induction fu with
          | zero => intro i x4 x6 hi hd; exact absurd hd (by omega)
          | succ fu ih43 =>
            intro i x4 x6 hi43 hd43 e4 e6
            rw [e4]
            rw [e6]
            refine ga_iload X 5 dX1_fail_43 rfl ?_
            refine ga_bipush X (v := 6) dX1_fail_45 (by decide) ?_
            refine ga_icmp_ge X (tgt := 83) dX1_fail_47 (by decide) (fun c_47 => ?_) (fun c_47 => ?_)
            · have hx_47 : 6 = i := Nat.le_antisymm ((nI_leI (a := 6) (by omega) (by omega)).mp c_47) hi43
              subst hx_47
              refine ga_iload_n X 3 dX1_fail_83 rfl rfl ?_
              refine ga_istore X [(6, .int (-(t 400 (cx (cd_lowest t))))), (0, .ref (L 0 0)), (1, .int (m + 1)), (2, .int (cd_lowest t)), (3, .int (-(t 400 (cx (cd_lowest t))))), (4, .long (cd_faA (up2 (up2 t 400 (cx (cd_lowest t)) 0) 600 (cx (cd_lowest t)) 1) 6))] dX1_fail_84 (by decide) rfl ?_
              refine ga_iconst X (v := 0) dX1_fail_86 (by decide) ?_
              refine ga_istore X [(7, .int 0), (6, .int (-(t 400 (cx (cd_lowest t))))), (0, .ref (L 0 0)), (1, .int (m + 1)), (2, .int (cd_lowest t)), (3, .int (-(t 400 (cx (cd_lowest t))))), (4, .long (cd_faA (up2 (up2 t 400 (cx (cd_lowest t)) 0) 600 (cx (cd_lowest t)) 1) 6))] dX1_fail_87 (by decide) rfl ?_
              by_cases cf_89 : ¬ gl_c (cd_faA (up2 (up2 t 400 (cx (cd_lowest t)) 0) 600 (cx (cd_lowest t)) 1) 6) 0 ≤ 0
              · have L89 : ∀ (fu i : Nat) (h : ga_H) (n : Nat) (x6 : Int32) (x7 : Int32), i ≤ 6 → 6 < i + fu → x6 = ((cd_faB (up2 (up2 t 400 (cx (cd_lowest t)) 0) 600 (cx (cd_lowest t)) 1) (-(t 400 (cx (cd_lowest t)))) (cd_faA (up2 (up2 t 400 (cx (cd_lowest t)) 0) 600 (cx (cd_lowest t)) 1) 6) i).1) → x7 = (nI i) → gc_P G L N ((cd_faB (up2 (up2 t 400 (cx (cd_lowest t)) 0) 600 (cx (cd_lowest t)) 1) (-(t 400 (cx (cd_lowest t)))) (cd_faA (up2 (up2 t 400 (cx (cd_lowest t)) 0) 600 (cx (cd_lowest t)) 1) 6) i).2) n0 h → n0 ≤ n → gc_V1 L N n0 n1 h1 h → n1 ≤ n → ga Γ G h n 0 0 89 [(0, .ref (L 0 0)), (1, .int (m + 1)), (2, .int (cd_lowest t)), (3, .int (-(t 400 (cx (cd_lowest t))))), (4, .long (cd_faA (up2 (up2 t 400 (cx (cd_lowest t)) 0) 600 (cx (cd_lowest t)) 1) 6)), (6, .int x6), (7, .int x7)] ([]) := by
                  intro fu
                  induction fu with
                  | zero => intro i h n x6 x7 hi hd; exact absurd hd (by omega)
                  | succ fu ih89 =>
                    intro i h n x6 x7 hi89 hd89 e6 e7 hP hn hF hn1 
                    rw [e6]
                    rw [e7]
                    refine ga_iload X 6 dX1_fail_89 rfl ?_
                    refine ga_bipush X (v := 6) dX1_fail_91 (by decide) ?_
                    refine ga_icmp_ge X (tgt := 159) dX1_fail_93 (by decide) (fun c_93 => ?_) (fun c_93 => ?_)
                    · have hx_93 : 6 = i := Nat.le_antisymm ((nI_leI (a := 6) (by omega) (by omega)).mp c_93) hi89
                      subst hx_93
                      refine ga_lv (lv' := [(0, .ref (L 0 0)), (1, .int (m + 1)), (2, .int (cd_lowest t)), (3, .int (-(t 400 (cx (cd_lowest t))))), (4, .long (cd_faA (up2 (up2 t 400 (cx (cd_lowest t)) 0) 600 (cx (cd_lowest t)) 1) 6)), (6, .int (if ¬ gl_c (cd_faA (up2 (up2 t 400 (cx (cd_lowest t)) 0) 600 (cx (cd_lowest t)) 1) 6) 0 ≤ 0 then ((cd_faB (up2 (up2 t 400 (cx (cd_lowest t)) 0) 600 (cx (cd_lowest t)) 1) (-(t 400 (cx (cd_lowest t)))) (cd_faA (up2 (up2 t 400 (cx (cd_lowest t)) 0) 600 (cx (cd_lowest t)) 1) 6) 6).1) else -(t 400 (cx (cd_lowest t))))), (7, .int (nI 6))]) (by rw [if_pos cf_89]) ?_
                      have hP : gc_P G L N (if ¬ gl_c (cd_faA (up2 (up2 t 400 (cx (cd_lowest t)) 0) 600 (cx (cd_lowest t)) 1) 6) 0 ≤ 0 then (cd_faB (up2 (up2 t 400 (cx (cd_lowest t)) 0) 600 (cx (cd_lowest t)) 1) (-(t 400 (cx (cd_lowest t)))) (cd_faA (up2 (up2 t 400 (cx (cd_lowest t)) 0) 600 (cx (cd_lowest t)) 1) 6) 6).2 else up2 (up2 t 400 (cx (cd_lowest t)) 0) 600 (cx (cd_lowest t)) 1) n0 h := by rw [if_pos cf_89]; exact hP
                      refine ga_aload_n X 0 dX1_fail_159 rfl rfl ?_
                      refine ga_dup X dX1_fail_160 rfl ?_
                      refine ga_get X in_X1 (ci := 0) rfl 6 (by decide) q194 rfl hP.r0 rfl dX1_fail_161 ?_
                      refine ga_st (st' := .int (t 0 0) :: .ref (L 0 0) :: []) (by rw [show (if ¬ gl_c (cd_faA (up2 (up2 t 400 (cx (cd_lowest t)) 0) 600 (cx (cd_lowest t)) 1) 6) 0 ≤ 0 then (cd_faB (up2 (up2 t 400 (cx (cd_lowest t)) 0) 600 (cx (cd_lowest t)) 1) (-(t 400 (cx (cd_lowest t)))) (cd_faA (up2 (up2 t 400 (cx (cd_lowest t)) 0) 600 (cx (cd_lowest t)) 1) 6) 6).2 else up2 (up2 t 400 (cx (cd_lowest t)) 0) 600 (cx (cd_lowest t)) 1) 0 0 = (t 0 0) from ((show (if ¬ gl_c (cd_faA (up2 (up2 t 400 (cx (cd_lowest t)) 0) 600 (cx (cd_lowest t)) 1) 6) 0 ≤ 0 then (cd_faB (up2 (up2 t 400 (cx (cd_lowest t)) 0) 600 (cx (cd_lowest t)) 1) (-(t 400 (cx (cd_lowest t)))) (cd_faA (up2 (up2 t 400 (cx (cd_lowest t)) 0) 600 (cx (cd_lowest t)) 1) 6) 6).2 else up2 (up2 t 400 (cx (cd_lowest t)) 0) 600 (cx (cd_lowest t)) 1) 0 0 = (up2 (up2 t 400 (cx (cd_lowest t)) 0) 600 (cx (cd_lowest t)) 1) 0 0 from (by split <;> first | rfl | exact congrFun (cd_faB_keep (up2 (up2 t 400 (cx (cd_lowest t)) 0) 600 (cx (cd_lowest t)) 1) (-(t 400 (cx (cd_lowest t)))) (cd_faA (up2 (up2 t 400 (cx (cd_lowest t)) 0) 600 (cx (cd_lowest t)) 1) 6) 6 0 (by decide)) 0))).trans (rfl)]) ?_
                      refine ga_iload X 5 dX1_fail_164 rfl ?_
                      refine ga_isub X dX1_fail_166 ?_
                      refine ga_putE X in_X1 tyX1 tyX1_ok nmX1 (ci := 0) rfl 6 (by decide) q194 rfl rfl hP.r0 (hP.A hP.l0) rfl rfl (Nat.le_of_ble_eq_true rfl) (fs' := [.ref (L 16 0), .ref (L 36 (N 16 0)), .ref (L 3 0), .ref (L 4 0), .ref (L 5 0), .ref (L 6 0), .int ((t 0 0) - (if ¬ gl_c (cd_faA (up2 (up2 t 400 (cx (cd_lowest t)) 0) 600 (cx (cd_lowest t)) 1) 6) 0 ≤ 0 then ((cd_faB (up2 (up2 t 400 (cx (cd_lowest t)) 0) 600 (cx (cd_lowest t)) 1) (-(t 400 (cx (cd_lowest t)))) (cd_faA (up2 (up2 t 400 (cx (cd_lowest t)) 0) 600 (cx (cd_lowest t)) 1) 6) 6).1) else -(t 400 (cx (cd_lowest t)))))]) rfl dX1_fail_167 ?_
                      refine gs_w (P := fun h => ga Γ G h n 0 0 170 [(0, .ref (L 0 0)), (1, .int (m + 1)), (2, .int (cd_lowest t)), (3, .int (-(t 400 (cx (cd_lowest t))))), (4, .long (cd_faA (up2 (up2 t 400 (cx (cd_lowest t)) 0) 600 (cx (cd_lowest t)) 1) 6)), (6, .int (if ¬ gl_c (cd_faA (up2 (up2 t 400 (cx (cd_lowest t)) 0) 600 (cx (cd_lowest t)) 1) 6) 0 ≤ 0 then ((cd_faB (up2 (up2 t 400 (cx (cd_lowest t)) 0) 600 (cx (cd_lowest t)) 1) (-(t 400 (cx (cd_lowest t)))) (cd_faA (up2 (up2 t 400 (cx (cd_lowest t)) 0) 600 (cx (cd_lowest t)) 1) 6) 6).1) else -(t 400 (cx (cd_lowest t))))), (7, .int (nI 6))] ([])) (hP.up1 0 0 ((t 0 0) - (if ¬ gl_c (cd_faA (up2 (up2 t 400 (cx (cd_lowest t)) 0) 600 (cx (cd_lowest t)) 1) 6) 0 ≤ 0 then ((cd_faB (up2 (up2 t 400 (cx (cd_lowest t)) 0) 600 (cx (cd_lowest t)) 1) (-(t 400 (cx (cd_lowest t)))) (cd_faA (up2 (up2 t 400 (cx (cd_lowest t)) 0) 600 (cx (cd_lowest t)) 1) 6) 6).1) else -(t 400 (cx (cd_lowest t))))) (k := 0) (i := 0) rfl rfl hP.l0 (by simp [gc_ok, up2, upd])) hP.l0 hF (fun h hP hF hk => ?_)
                      refine ga_aload_n X 0 dX1_fail_170 rfl rfl ?_
                      refine ga_callV X Y (cm_lowest _ X.tr G L N (up2 (if ¬ gl_c (cd_faA (up2 (up2 t 400 (cx (cd_lowest t)) 0) 600 (cx (cd_lowest t)) 1) 6) 0 ≤ 0 then (cd_faB (up2 (up2 t 400 (cx (cd_lowest t)) 0) 600 (cx (cd_lowest t)) 1) (-(t 400 (cx (cd_lowest t)))) (cd_faA (up2 (up2 t 400 (cx (cd_lowest t)) 0) 600 (cx (cd_lowest t)) 1) 6) 6).2 else up2 (up2 t 400 (cx (cd_lowest t)) 0) 600 (cx (cd_lowest t)) 1) 0 0 ((t 0 0) - (if ¬ gl_c (cd_faA (up2 (up2 t 400 (cx (cd_lowest t)) 0) 600 (cx (cd_lowest t)) 1) 6) 0 ≤ 0 then ((cd_faB (up2 (up2 t 400 (cx (cd_lowest t)) 0) 600 (cx (cd_lowest t)) 1) (-(t 400 (cx (cd_lowest t)))) (cd_faA (up2 (up2 t 400 (cx (cd_lowest t)) 0) 600 (cx (cd_lowest t)) 1) 6) 6).1) else -(t 400 (cx (cd_lowest t)))))) _ _ _ hP hn) wX1_414 (ci := 0) rfl hP.r0 ⟨Nat.le_of_ble_eq_true rfl, Nat.le_of_ble_eq_true rfl⟩ ⟨(by first | decide | omega | (dsimp only; omega)), (by first | decide | omega | (dsimp only; omega))⟩ rfl (Nat.le_of_ble_eq_true rfl) dX1_fail_171 (fun v9 h9 n9 hq _ => ?_) (fun _ _ _ q _ => q.elim)
                      obtain ⟨rfl, hq2, hq3⟩ := hq
                      rw [hq2, hq3]
                      refine ga_widen (k2 := 0) (n2 := 0) (by first | decide | omega | (dsimp only; omega)) (by first | decide | omega | (dsimp only; omega)) ?_
                      show ga Γ G _ _ _ _ 174 [(0, .ref (L 0 0)), (1, .int (m + 1)), (2, .int (cd_lowest t)), (3, .int (-(t 400 (cx (cd_lowest t))))), (4, .long (cd_faA (up2 (up2 t 400 (cx (cd_lowest t)) 0) 600 (cx (cd_lowest t)) 1) 6)), (6, .int (if ¬ gl_c (cd_faA (up2 (up2 t 400 (cx (cd_lowest t)) 0) 600 (cx (cd_lowest t)) 1) 6) 0 ≤ 0 then ((cd_faB (up2 (up2 t 400 (cx (cd_lowest t)) 0) 600 (cx (cd_lowest t)) 1) (-(t 400 (cx (cd_lowest t)))) (cd_faA (up2 (up2 t 400 (cx (cd_lowest t)) 0) 600 (cx (cd_lowest t)) 1) 6) 6).1) else -(t 400 (cx (cd_lowest t))))), (7, .int (nI 6))] (.int (cd_lowest (up2 (if ¬ gl_c (cd_faA (up2 (up2 t 400 (cx (cd_lowest t)) 0) 600 (cx (cd_lowest t)) 1) 6) 0 ≤ 0 then (cd_faB (up2 (up2 t 400 (cx (cd_lowest t)) 0) 600 (cx (cd_lowest t)) 1) (-(t 400 (cx (cd_lowest t)))) (cd_faA (up2 (up2 t 400 (cx (cd_lowest t)) 0) 600 (cx (cd_lowest t)) 1) 6) 6).2 else up2 (up2 t 400 (cx (cd_lowest t)) 0) 600 (cx (cd_lowest t)) 1) 0 0 ((t 0 0) - (if ¬ gl_c (cd_faA (up2 (up2 t 400 (cx (cd_lowest t)) 0) 600 (cx (cd_lowest t)) 1) 6) 0 ≤ 0 then ((cd_faB (up2 (up2 t 400 (cx (cd_lowest t)) 0) 600 (cx (cd_lowest t)) 1) (-(t 400 (cx (cd_lowest t)))) (cd_faA (up2 (up2 t 400 (cx (cd_lowest t)) 0) 600 (cx (cd_lowest t)) 1) 6) 6).1) else -(t 400 (cx (cd_lowest t))))))) :: [])
                      refine ga_istore_n X [(2, .int (cd_lowest (up2 (if ¬ gl_c (cd_faA (up2 (up2 t 400 (cx (cd_lowest t)) 0) 600 (cx (cd_lowest t)) 1) 6) 0 ≤ 0 then (cd_faB (up2 (up2 t 400 (cx (cd_lowest t)) 0) 600 (cx (cd_lowest t)) 1) (-(t 400 (cx (cd_lowest t)))) (cd_faA (up2 (up2 t 400 (cx (cd_lowest t)) 0) 600 (cx (cd_lowest t)) 1) 6) 6).2 else up2 (up2 t 400 (cx (cd_lowest t)) 0) 600 (cx (cd_lowest t)) 1) 0 0 ((t 0 0) - (if ¬ gl_c (cd_faA (up2 (up2 t 400 (cx (cd_lowest t)) 0) 600 (cx (cd_lowest t)) 1) 6) 0 ≤ 0 then ((cd_faB (up2 (up2 t 400 (cx (cd_lowest t)) 0) 600 (cx (cd_lowest t)) 1) (-(t 400 (cx (cd_lowest t)))) (cd_faA (up2 (up2 t 400 (cx (cd_lowest t)) 0) 600 (cx (cd_lowest t)) 1) 6) 6).1) else -(t 400 (cx (cd_lowest t)))))))), (0, .ref (L 0 0)), (1, .int (m + 1)), (3, .int (-(t 400 (cx (cd_lowest t))))), (4, .long (cd_faA (up2 (up2 t 400 (cx (cd_lowest t)) 0) 600 (cx (cd_lowest t)) 1) 6)), (6, .int (if ¬ gl_c (cd_faA (up2 (up2 t 400 (cx (cd_lowest t)) 0) 600 (cx (cd_lowest t)) 1) 6) 0 ≤ 0 then ((cd_faB (up2 (up2 t 400 (cx (cd_lowest t)) 0) 600 (cx (cd_lowest t)) 1) (-(t 400 (cx (cd_lowest t)))) (cd_faA (up2 (up2 t 400 (cx (cd_lowest t)) 0) 600 (cx (cd_lowest t)) 1) 6) 6).1) else -(t 400 (cx (cd_lowest t))))), (7, .int (nI 6))] dX1_fail_174 rfl (by decide) rfl ?_
                      refine ga_goto X (tgt := 7) dX1_fail_175 (by decide) ?_
                      refine ga_sub [1, 2, 0] rfl ?_
                      exact ih7 (m + 1) (cu_failB m t) h n _ _ (by have := gc_nf_up (fb_6 m t) hj0 6 hj6; omega) rfl rfl hR7 (show gc_P G L N (cu_failB m t) n0 h by unfold cu_failB; exact hP) hn hF hn1
                    · have hx_93 : i < 6 := Nat.lt_of_not_le fun z => c_93 ((nI_leI (a := 6) (by omega) (by omega)).mpr z)
                      refine ga_lload X 4 dX1_fail_96 rfl ?_
                      refine ga_lconst X (v := 0) dX1_fail_98 (by decide) ?_
                      refine ga_lcmp X dX1_fail_99 ?_
                      refine ga_if_le X (tgt := 159) dX1_fail_100 (by decide) (fun c_100 => ?_) (fun c_100 => ?_)
                      · first | exact absurd cf_89 c_100 | exact absurd c_100 cf_89
                      · refine ga_aload_n X 0 dX1_fail_103 rfl rfl ?_
                        refine ga_get X in_X1 (ci := 0) rfl 5 (by decide) q193 rfl hP.r0 rfl dX1_fail_104 ?_
                        refine ga_iload X 6 dX1_fail_107 rfl ?_
                        refine ga_zald X i rfl (by omega) (by decide) hP.r6.1 dX1_fail_109 ?_
                        refine ga_st (st' := .int ((up2 (up2 t 400 (cx (cd_lowest t)) 0) 600 (cx (cd_lowest t)) 1) 600 i) :: []) (by rw [show ((cd_faB (up2 (up2 t 400 (cx (cd_lowest t)) 0) 600 (cx (cd_lowest t)) 1) (-(t 400 (cx (cd_lowest t)))) (cd_faA (up2 (up2 t 400 (cx (cd_lowest t)) 0) 600 (cx (cd_lowest t)) 1) 6) i).2) 600 i = ((up2 (up2 t 400 (cx (cd_lowest t)) 0) 600 (cx (cd_lowest t)) 1) 600 i) from (show ((cd_faB (up2 (up2 t 400 (cx (cd_lowest t)) 0) 600 (cx (cd_lowest t)) 1) (-(t 400 (cx (cd_lowest t)))) (cd_faA (up2 (up2 t 400 (cx (cd_lowest t)) 0) 600 (cx (cd_lowest t)) 1) 6) i).2) 600 i = (up2 (up2 t 400 (cx (cd_lowest t)) 0) 600 (cx (cd_lowest t)) 1) 600 i from congrFun (cd_faB_keep (up2 (up2 t 400 (cx (cd_lowest t)) 0) 600 (cx (cd_lowest t)) 1) (-(t 400 (cx (cd_lowest t)))) (cd_faA (up2 (up2 t 400 (cx (cd_lowest t)) 0) 600 (cx (cd_lowest t)) 1) 6) i 600 (by decide)) i)]) ?_
                        have J132 : ∀ (v132 : Int32), v132 = (if ((up2 (up2 t 400 (cx (cd_lowest t)) 0) 600 (cx (cd_lowest t)) 1) 600 i) = 0 then ((((-(t 400 (cx (cd_lowest t)))).toInt64) * ((t 500 i).toInt64)) / (cd_faA (up2 (up2 t 400 (cx (cd_lowest t)) 0) 600 (cx (cd_lowest t)) 1) 6)).toInt32 else 0) → ga Γ G h n 0 0 132 [(0, .ref (L 0 0)), (1, .int (m + 1)), (2, .int (cd_lowest t)), (3, .int (-(t 400 (cx (cd_lowest t))))), (4, .long (cd_faA (up2 (up2 t 400 (cx (cd_lowest t)) 0) 600 (cx (cd_lowest t)) 1) 6)), (6, .int ((cd_faB (up2 (up2 t 400 (cx (cd_lowest t)) 0) 600 (cx (cd_lowest t)) 1) (-(t 400 (cx (cd_lowest t)))) (cd_faA (up2 (up2 t 400 (cx (cd_lowest t)) 0) 600 (cx (cd_lowest t)) 1) 6) i).1)), (7, .int (nI i))] (.int v132 :: []) := by
                          intro v132 ev132
                          subst ev132
                          refine ga_istore X [(8, .int (if ((up2 (up2 t 400 (cx (cd_lowest t)) 0) 600 (cx (cd_lowest t)) 1) 600 i) = 0 then ((((-(t 400 (cx (cd_lowest t)))).toInt64) * ((t 500 i).toInt64)) / (cd_faA (up2 (up2 t 400 (cx (cd_lowest t)) 0) 600 (cx (cd_lowest t)) 1) 6)).toInt32 else 0)), (0, .ref (L 0 0)), (1, .int (m + 1)), (2, .int (cd_lowest t)), (3, .int (-(t 400 (cx (cd_lowest t))))), (4, .long (cd_faA (up2 (up2 t 400 (cx (cd_lowest t)) 0) 600 (cx (cd_lowest t)) 1) 6)), (6, .int ((cd_faB (up2 (up2 t 400 (cx (cd_lowest t)) 0) 600 (cx (cd_lowest t)) 1) (-(t 400 (cx (cd_lowest t)))) (cd_faA (up2 (up2 t 400 (cx (cd_lowest t)) 0) 600 (cx (cd_lowest t)) 1) 6) i).1)), (7, .int (nI i))] dX1_fail_132 (by decide) rfl ?_
                          refine ga_aload_n X 1 dX1_fail_134 rfl rfl ?_
                          refine ga_get X in_X1 (ci := 0) rfl 3 (by decide) q191 rfl hP.r0 rfl dX1_fail_135 ?_
                          refine ga_iload X 7 dX1_fail_138 rfl ?_
                          refine ga_dup2 X dX1_fail_140 rfl rfl ?_
                          refine ga_iald X i rfl (by omega) (by decide) hP.r4 dX1_fail_141 ?_
                          refine ga_iload X 0 dX1_fail_142 rfl ?_
                          refine ga_isub X dX1_fail_144 ?_
                          refine ga_iast X i rfl (by omega) (by decide) hP.r4 (hP.A hP.l4) dX1_fail_145 ?_
                          refine gs_w (P := fun h => ga Γ G h n 0 0 146 [(8, .int (if ((up2 (up2 t 400 (cx (cd_lowest t)) 0) 600 (cx (cd_lowest t)) 1) 600 i) = 0 then ((((-(t 400 (cx (cd_lowest t)))).toInt64) * ((t 500 i).toInt64)) / (cd_faA (up2 (up2 t 400 (cx (cd_lowest t)) 0) 600 (cx (cd_lowest t)) 1) 6)).toInt32 else 0)), (0, .ref (L 0 0)), (1, .int (m + 1)), (2, .int (cd_lowest t)), (3, .int (-(t 400 (cx (cd_lowest t))))), (4, .long (cd_faA (up2 (up2 t 400 (cx (cd_lowest t)) 0) 600 (cx (cd_lowest t)) 1) 6)), (6, .int ((cd_faB (up2 (up2 t 400 (cx (cd_lowest t)) 0) 600 (cx (cd_lowest t)) 1) (-(t 400 (cx (cd_lowest t)))) (cd_faA (up2 (up2 t 400 (cx (cd_lowest t)) 0) 600 (cx (cd_lowest t)) 1) 6) i).1)), (7, .int (nI i))] ([])) (hP.up1 400 i ((((cd_faB (up2 (up2 t 400 (cx (cd_lowest t)) 0) 600 (cx (cd_lowest t)) 1) (-(t 400 (cx (cd_lowest t)))) (cd_faA (up2 (up2 t 400 (cx (cd_lowest t)) 0) 600 (cx (cd_lowest t)) 1) 6) i).2) 400 i) - (if ((up2 (up2 t 400 (cx (cd_lowest t)) 0) 600 (cx (cd_lowest t)) 1) 600 i) = 0 then ((((-(t 400 (cx (cd_lowest t)))).toInt64) * ((t 500 i).toInt64)) / (cd_faA (up2 (up2 t 400 (cx (cd_lowest t)) 0) 600 (cx (cd_lowest t)) 1) 6)).toInt32 else 0)) (k := 4) (i := 0) rfl rfl hP.l4 ⟨rfl, congrArg (ga_I G 6) up2_s.symm⟩) hP.l4 hF (fun h hP hF hk => ?_)
                          refine ga_iload X 6 dX1_fail_146 rfl ?_
                          refine ga_iload X 0 dX1_fail_148 rfl ?_
                          refine ga_isub X dX1_fail_150 ?_
                          refine ga_istore X [(6, .int (((cd_faB (up2 (up2 t 400 (cx (cd_lowest t)) 0) 600 (cx (cd_lowest t)) 1) (-(t 400 (cx (cd_lowest t)))) (cd_faA (up2 (up2 t 400 (cx (cd_lowest t)) 0) 600 (cx (cd_lowest t)) 1) 6) i).1) - (if ((up2 (up2 t 400 (cx (cd_lowest t)) 0) 600 (cx (cd_lowest t)) 1) 600 i) = 0 then ((((-(t 400 (cx (cd_lowest t)))).toInt64) * ((t 500 i).toInt64)) / (cd_faA (up2 (up2 t 400 (cx (cd_lowest t)) 0) 600 (cx (cd_lowest t)) 1) 6)).toInt32 else 0))), (8, .int (if ((up2 (up2 t 400 (cx (cd_lowest t)) 0) 600 (cx (cd_lowest t)) 1) 600 i) = 0 then ((((-(t 400 (cx (cd_lowest t)))).toInt64) * ((t 500 i).toInt64)) / (cd_faA (up2 (up2 t 400 (cx (cd_lowest t)) 0) 600 (cx (cd_lowest t)) 1) 6)).toInt32 else 0)), (0, .ref (L 0 0)), (1, .int (m + 1)), (2, .int (cd_lowest t)), (3, .int (-(t 400 (cx (cd_lowest t))))), (4, .long (cd_faA (up2 (up2 t 400 (cx (cd_lowest t)) 0) 600 (cx (cd_lowest t)) 1) 6)), (7, .int (nI i))] dX1_fail_151 (by decide) rfl ?_
                          refine ga_iinc X 7 [(7, .int (nI (i + 1))), (6, .int (((cd_faB (up2 (up2 t 400 (cx (cd_lowest t)) 0) 600 (cx (cd_lowest t)) 1) (-(t 400 (cx (cd_lowest t)))) (cd_faA (up2 (up2 t 400 (cx (cd_lowest t)) 0) 600 (cx (cd_lowest t)) 1) 6) i).1) - (if ((up2 (up2 t 400 (cx (cd_lowest t)) 0) 600 (cx (cd_lowest t)) 1) 600 i) = 0 then ((((-(t 400 (cx (cd_lowest t)))).toInt64) * ((t 500 i).toInt64)) / (cd_faA (up2 (up2 t 400 (cx (cd_lowest t)) 0) 600 (cx (cd_lowest t)) 1) 6)).toInt32 else 0))), (8, .int (if ((up2 (up2 t 400 (cx (cd_lowest t)) 0) 600 (cx (cd_lowest t)) 1) 600 i) = 0 then ((((-(t 400 (cx (cd_lowest t)))).toInt64) * ((t 500 i).toInt64)) / (cd_faA (up2 (up2 t 400 (cx (cd_lowest t)) 0) 600 (cx (cd_lowest t)) 1) 6)).toInt32 else 0)), (0, .ref (L 0 0)), (1, .int (m + 1)), (2, .int (cd_lowest t)), (3, .int (-(t 400 (cx (cd_lowest t))))), (4, .long (cd_faA (up2 (up2 t 400 (cx (cd_lowest t)) 0) 600 (cx (cd_lowest t)) 1) 6))] dX1_fail_153 rfl (nI_1 i) (by decide) rfl ?_
                          refine ga_goto X (tgt := 89) dX1_fail_156 (by decide) ?_
                          refine ga_sub [3, 4, 5, 6, 7, 1, 0] rfl ?_
                          exact ih89 (i + 1) h n _ _ (by omega) (by omega) (congrArg (fun z => z.1) (cd_faB_s (up2 (up2 t 400 (cx (cd_lowest t)) 0) 600 (cx (cd_lowest t)) 1) (-(t 400 (cx (cd_lowest t)))) (cd_faA (up2 (up2 t 400 (cx (cd_lowest t)) 0) 600 (cx (cd_lowest t)) 1) 6) i).symm) rfl (show gc_P G L N ((cd_faB (up2 (up2 t 400 (cx (cd_lowest t)) 0) 600 (cx (cd_lowest t)) 1) (-(t 400 (cx (cd_lowest t)))) (cd_faA (up2 (up2 t 400 (cx (cd_lowest t)) 0) 600 (cx (cd_lowest t)) 1) 6) (i + 1)).2) n0 h by rw [cd_faB_s]; exact hP) hn hF hn1 
                        refine ga_if_eq X (tgt := 117) dX1_fail_110 (by decide) (fun c_110 => ?_) (fun c_110 => ?_)
                        · refine ga_iload_n X 3 dX1_fail_117 rfl rfl ?_
                          refine ga_i2l X dX1_fail_118 rfl ?_
                          refine ga_aload_n X 0 dX1_fail_119 rfl rfl ?_
                          refine ga_get X in_X1 (ci := 0) rfl 4 (by decide) q192 rfl hP.r0 rfl dX1_fail_120 ?_
                          refine ga_iload X 6 dX1_fail_123 rfl ?_
                          refine ga_iald X i rfl (by omega) (by decide) hP.r5 dX1_fail_125 ?_
                          refine ga_st (st' := .int (t 500 i) :: .long ((-(t 400 (cx (cd_lowest t)))).toInt64) :: []) (by rw [show ((cd_faB (up2 (up2 t 400 (cx (cd_lowest t)) 0) 600 (cx (cd_lowest t)) 1) (-(t 400 (cx (cd_lowest t)))) (cd_faA (up2 (up2 t 400 (cx (cd_lowest t)) 0) 600 (cx (cd_lowest t)) 1) 6) i).2) 500 i = (t 500 i) from ((show ((cd_faB (up2 (up2 t 400 (cx (cd_lowest t)) 0) 600 (cx (cd_lowest t)) 1) (-(t 400 (cx (cd_lowest t)))) (cd_faA (up2 (up2 t 400 (cx (cd_lowest t)) 0) 600 (cx (cd_lowest t)) 1) 6) i).2) 500 i = (up2 (up2 t 400 (cx (cd_lowest t)) 0) 600 (cx (cd_lowest t)) 1) 500 i from congrFun (cd_faB_keep (up2 (up2 t 400 (cx (cd_lowest t)) 0) 600 (cx (cd_lowest t)) 1) (-(t 400 (cx (cd_lowest t)))) (cd_faA (up2 (up2 t 400 (cx (cd_lowest t)) 0) 600 (cx (cd_lowest t)) 1) 6) i 500 (by decide)) i)).trans (rfl)]) ?_
                          refine ga_i2l X dX1_fail_126 rfl ?_
                          refine ga_lmul X dX1_fail_127 ?_
                          refine ga_lload X 4 dX1_fail_128 rfl ?_
                          refine ga_ldiv X dX1_fail_130 (gl_ne0 c_100) ?_
                          refine ga_l2i X dX1_fail_131 rfl ?_
                          exact J132 _ ((if_pos c_110).symm)
                        · refine ga_iconst X (v := 0) dX1_fail_113 (by decide) ?_
                          refine ga_goto X (tgt := 132) dX1_fail_114 (by decide) ?_
                          exact J132 _ ((if_neg c_110).symm)
                refine ga_sub [2, 3, 4, 5, 6, 1, 0] rfl ?_
                exact L89 (6 + 1) 0 h n _ _ (by omega) (by omega) rfl rfl hP hn hF hn1 
              · refine ga_lv (lv' := [(7, .int 0), (6, .int (if ¬ gl_c (cd_faA (up2 (up2 t 400 (cx (cd_lowest t)) 0) 600 (cx (cd_lowest t)) 1) 6) 0 ≤ 0 then ((cd_faB (up2 (up2 t 400 (cx (cd_lowest t)) 0) 600 (cx (cd_lowest t)) 1) (-(t 400 (cx (cd_lowest t)))) (cd_faA (up2 (up2 t 400 (cx (cd_lowest t)) 0) 600 (cx (cd_lowest t)) 1) 6) 6).1) else -(t 400 (cx (cd_lowest t))))), (0, .ref (L 0 0)), (1, .int (m + 1)), (2, .int (cd_lowest t)), (3, .int (-(t 400 (cx (cd_lowest t))))), (4, .long (cd_faA (up2 (up2 t 400 (cx (cd_lowest t)) 0) 600 (cx (cd_lowest t)) 1) 6))]) (by rw [if_neg cf_89]) ?_
                have hP : gc_P G L N (if ¬ gl_c (cd_faA (up2 (up2 t 400 (cx (cd_lowest t)) 0) 600 (cx (cd_lowest t)) 1) 6) 0 ≤ 0 then (cd_faB (up2 (up2 t 400 (cx (cd_lowest t)) 0) 600 (cx (cd_lowest t)) 1) (-(t 400 (cx (cd_lowest t)))) (cd_faA (up2 (up2 t 400 (cx (cd_lowest t)) 0) 600 (cx (cd_lowest t)) 1) 6) 6).2 else up2 (up2 t 400 (cx (cd_lowest t)) 0) 600 (cx (cd_lowest t)) 1) n0 h := by rw [if_neg cf_89]; exact hP
                refine ga_iload X 0 dX1_fail_89 rfl ?_
                refine ga_bipush X (v := 6) dX1_fail_91 (by decide) ?_
                refine ga_icmp_ge X (tgt := 159) dX1_fail_93 (by decide) (fun c_93 => ?_) (fun c_93 => ?_)
                · exact absurd c_93 (by decide)
                · refine ga_lload X 6 dX1_fail_96 rfl ?_
                  refine ga_lconst X (v := 0) dX1_fail_98 (by decide) ?_
                  refine ga_lcmp X dX1_fail_99 ?_
                  refine ga_if_le X (tgt := 159) dX1_fail_100 (by decide) (fun c_100 => ?_) (fun c_100 => ?_)
                  · refine ga_aload_n X 2 dX1_fail_159 rfl rfl ?_
                    refine ga_dup X dX1_fail_160 rfl ?_
                    refine ga_get X in_X1 (ci := 0) rfl 6 (by decide) q194 rfl hP.r0 rfl dX1_fail_161 ?_
                    refine ga_st (st' := .int (t 0 0) :: .ref (L 0 0) :: []) (by rw [show (if ¬ gl_c (cd_faA (up2 (up2 t 400 (cx (cd_lowest t)) 0) 600 (cx (cd_lowest t)) 1) 6) 0 ≤ 0 then (cd_faB (up2 (up2 t 400 (cx (cd_lowest t)) 0) 600 (cx (cd_lowest t)) 1) (-(t 400 (cx (cd_lowest t)))) (cd_faA (up2 (up2 t 400 (cx (cd_lowest t)) 0) 600 (cx (cd_lowest t)) 1) 6) 6).2 else up2 (up2 t 400 (cx (cd_lowest t)) 0) 600 (cx (cd_lowest t)) 1) 0 0 = (t 0 0) from ((show (if ¬ gl_c (cd_faA (up2 (up2 t 400 (cx (cd_lowest t)) 0) 600 (cx (cd_lowest t)) 1) 6) 0 ≤ 0 then (cd_faB (up2 (up2 t 400 (cx (cd_lowest t)) 0) 600 (cx (cd_lowest t)) 1) (-(t 400 (cx (cd_lowest t)))) (cd_faA (up2 (up2 t 400 (cx (cd_lowest t)) 0) 600 (cx (cd_lowest t)) 1) 6) 6).2 else up2 (up2 t 400 (cx (cd_lowest t)) 0) 600 (cx (cd_lowest t)) 1) 0 0 = (up2 (up2 t 400 (cx (cd_lowest t)) 0) 600 (cx (cd_lowest t)) 1) 0 0 from (by split <;> first | rfl | exact congrFun (cd_faB_keep (up2 (up2 t 400 (cx (cd_lowest t)) 0) 600 (cx (cd_lowest t)) 1) (-(t 400 (cx (cd_lowest t)))) (cd_faA (up2 (up2 t 400 (cx (cd_lowest t)) 0) 600 (cx (cd_lowest t)) 1) 6) 6 0 (by decide)) 0))).trans (rfl)]) ?_
                    refine ga_iload X 1 dX1_fail_164 rfl ?_
                    refine ga_isub X dX1_fail_166 ?_
                    refine ga_putE X in_X1 tyX1 tyX1_ok nmX1 (ci := 0) rfl 6 (by decide) q194 rfl rfl hP.r0 (hP.A hP.l0) rfl rfl (Nat.le_of_ble_eq_true rfl) (fs' := [.ref (L 16 0), .ref (L 36 (N 16 0)), .ref (L 3 0), .ref (L 4 0), .ref (L 5 0), .ref (L 6 0), .int ((t 0 0) - (if ¬ gl_c (cd_faA (up2 (up2 t 400 (cx (cd_lowest t)) 0) 600 (cx (cd_lowest t)) 1) 6) 0 ≤ 0 then ((cd_faB (up2 (up2 t 400 (cx (cd_lowest t)) 0) 600 (cx (cd_lowest t)) 1) (-(t 400 (cx (cd_lowest t)))) (cd_faA (up2 (up2 t 400 (cx (cd_lowest t)) 0) 600 (cx (cd_lowest t)) 1) 6) 6).1) else -(t 400 (cx (cd_lowest t)))))]) rfl dX1_fail_167 ?_
                    refine gs_w (P := fun h => ga Γ G h n 0 0 170 [(7, .int 0), (6, .int (if ¬ gl_c (cd_faA (up2 (up2 t 400 (cx (cd_lowest t)) 0) 600 (cx (cd_lowest t)) 1) 6) 0 ≤ 0 then ((cd_faB (up2 (up2 t 400 (cx (cd_lowest t)) 0) 600 (cx (cd_lowest t)) 1) (-(t 400 (cx (cd_lowest t)))) (cd_faA (up2 (up2 t 400 (cx (cd_lowest t)) 0) 600 (cx (cd_lowest t)) 1) 6) 6).1) else -(t 400 (cx (cd_lowest t))))), (0, .ref (L 0 0)), (1, .int (m + 1)), (2, .int (cd_lowest t)), (3, .int (-(t 400 (cx (cd_lowest t))))), (4, .long (cd_faA (up2 (up2 t 400 (cx (cd_lowest t)) 0) 600 (cx (cd_lowest t)) 1) 6))] ([])) (hP.up1 0 0 ((t 0 0) - (if ¬ gl_c (cd_faA (up2 (up2 t 400 (cx (cd_lowest t)) 0) 600 (cx (cd_lowest t)) 1) 6) 0 ≤ 0 then ((cd_faB (up2 (up2 t 400 (cx (cd_lowest t)) 0) 600 (cx (cd_lowest t)) 1) (-(t 400 (cx (cd_lowest t)))) (cd_faA (up2 (up2 t 400 (cx (cd_lowest t)) 0) 600 (cx (cd_lowest t)) 1) 6) 6).1) else -(t 400 (cx (cd_lowest t))))) (k := 0) (i := 0) rfl rfl hP.l0 (by simp [gc_ok, up2, upd])) hP.l0 hF (fun h hP hF hk => ?_)
                    refine ga_aload_n X 2 dX1_fail_170 rfl rfl ?_
                    refine ga_callV X Y (cm_lowest _ X.tr G L N (up2 (if ¬ gl_c (cd_faA (up2 (up2 t 400 (cx (cd_lowest t)) 0) 600 (cx (cd_lowest t)) 1) 6) 0 ≤ 0 then (cd_faB (up2 (up2 t 400 (cx (cd_lowest t)) 0) 600 (cx (cd_lowest t)) 1) (-(t 400 (cx (cd_lowest t)))) (cd_faA (up2 (up2 t 400 (cx (cd_lowest t)) 0) 600 (cx (cd_lowest t)) 1) 6) 6).2 else up2 (up2 t 400 (cx (cd_lowest t)) 0) 600 (cx (cd_lowest t)) 1) 0 0 ((t 0 0) - (if ¬ gl_c (cd_faA (up2 (up2 t 400 (cx (cd_lowest t)) 0) 600 (cx (cd_lowest t)) 1) 6) 0 ≤ 0 then ((cd_faB (up2 (up2 t 400 (cx (cd_lowest t)) 0) 600 (cx (cd_lowest t)) 1) (-(t 400 (cx (cd_lowest t)))) (cd_faA (up2 (up2 t 400 (cx (cd_lowest t)) 0) 600 (cx (cd_lowest t)) 1) 6) 6).1) else -(t 400 (cx (cd_lowest t)))))) _ _ _ hP hn) wX1_414 (ci := 0) rfl hP.r0 ⟨Nat.le_of_ble_eq_true rfl, Nat.le_of_ble_eq_true rfl⟩ ⟨(by first | decide | omega | (dsimp only; omega)), (by first | decide | omega | (dsimp only; omega))⟩ rfl (Nat.le_of_ble_eq_true rfl) dX1_fail_171 (fun v9 h9 n9 hq _ => ?_) (fun _ _ _ q _ => q.elim)
                    obtain ⟨rfl, hq2, hq3⟩ := hq
                    rw [hq2, hq3]
                    refine ga_widen (k2 := 0) (n2 := 0) (by first | decide | omega | (dsimp only; omega)) (by first | decide | omega | (dsimp only; omega)) ?_
                    show ga Γ G _ _ _ _ 174 [(7, .int 0), (6, .int (if ¬ gl_c (cd_faA (up2 (up2 t 400 (cx (cd_lowest t)) 0) 600 (cx (cd_lowest t)) 1) 6) 0 ≤ 0 then ((cd_faB (up2 (up2 t 400 (cx (cd_lowest t)) 0) 600 (cx (cd_lowest t)) 1) (-(t 400 (cx (cd_lowest t)))) (cd_faA (up2 (up2 t 400 (cx (cd_lowest t)) 0) 600 (cx (cd_lowest t)) 1) 6) 6).1) else -(t 400 (cx (cd_lowest t))))), (0, .ref (L 0 0)), (1, .int (m + 1)), (2, .int (cd_lowest t)), (3, .int (-(t 400 (cx (cd_lowest t))))), (4, .long (cd_faA (up2 (up2 t 400 (cx (cd_lowest t)) 0) 600 (cx (cd_lowest t)) 1) 6))] (.int (cd_lowest (up2 (if ¬ gl_c (cd_faA (up2 (up2 t 400 (cx (cd_lowest t)) 0) 600 (cx (cd_lowest t)) 1) 6) 0 ≤ 0 then (cd_faB (up2 (up2 t 400 (cx (cd_lowest t)) 0) 600 (cx (cd_lowest t)) 1) (-(t 400 (cx (cd_lowest t)))) (cd_faA (up2 (up2 t 400 (cx (cd_lowest t)) 0) 600 (cx (cd_lowest t)) 1) 6) 6).2 else up2 (up2 t 400 (cx (cd_lowest t)) 0) 600 (cx (cd_lowest t)) 1) 0 0 ((t 0 0) - (if ¬ gl_c (cd_faA (up2 (up2 t 400 (cx (cd_lowest t)) 0) 600 (cx (cd_lowest t)) 1) 6) 0 ≤ 0 then ((cd_faB (up2 (up2 t 400 (cx (cd_lowest t)) 0) 600 (cx (cd_lowest t)) 1) (-(t 400 (cx (cd_lowest t)))) (cd_faA (up2 (up2 t 400 (cx (cd_lowest t)) 0) 600 (cx (cd_lowest t)) 1) 6) 6).1) else -(t 400 (cx (cd_lowest t))))))) :: [])
                    refine ga_istore_n X [(2, .int (cd_lowest (up2 (if ¬ gl_c (cd_faA (up2 (up2 t 400 (cx (cd_lowest t)) 0) 600 (cx (cd_lowest t)) 1) 6) 0 ≤ 0 then (cd_faB (up2 (up2 t 400 (cx (cd_lowest t)) 0) 600 (cx (cd_lowest t)) 1) (-(t 400 (cx (cd_lowest t)))) (cd_faA (up2 (up2 t 400 (cx (cd_lowest t)) 0) 600 (cx (cd_lowest t)) 1) 6) 6).2 else up2 (up2 t 400 (cx (cd_lowest t)) 0) 600 (cx (cd_lowest t)) 1) 0 0 ((t 0 0) - (if ¬ gl_c (cd_faA (up2 (up2 t 400 (cx (cd_lowest t)) 0) 600 (cx (cd_lowest t)) 1) 6) 0 ≤ 0 then ((cd_faB (up2 (up2 t 400 (cx (cd_lowest t)) 0) 600 (cx (cd_lowest t)) 1) (-(t 400 (cx (cd_lowest t)))) (cd_faA (up2 (up2 t 400 (cx (cd_lowest t)) 0) 600 (cx (cd_lowest t)) 1) 6) 6).1) else -(t 400 (cx (cd_lowest t)))))))), (7, .int 0), (6, .int (if ¬ gl_c (cd_faA (up2 (up2 t 400 (cx (cd_lowest t)) 0) 600 (cx (cd_lowest t)) 1) 6) 0 ≤ 0 then ((cd_faB (up2 (up2 t 400 (cx (cd_lowest t)) 0) 600 (cx (cd_lowest t)) 1) (-(t 400 (cx (cd_lowest t)))) (cd_faA (up2 (up2 t 400 (cx (cd_lowest t)) 0) 600 (cx (cd_lowest t)) 1) 6) 6).1) else -(t 400 (cx (cd_lowest t))))), (0, .ref (L 0 0)), (1, .int (m + 1)), (3, .int (-(t 400 (cx (cd_lowest t))))), (4, .long (cd_faA (up2 (up2 t 400 (cx (cd_lowest t)) 0) 600 (cx (cd_lowest t)) 1) 6))] dX1_fail_174 rfl (by decide) rfl ?_
                    refine ga_goto X (tgt := 7) dX1_fail_175 (by decide) ?_
                    refine ga_sub [3, 4, 0] rfl ?_
                    exact ih7 (m + 1) (cu_failB m t) h n _ _ (by have := gc_nf_up (fb_6 m t) hj0 6 hj6; omega) rfl rfl hR7 (show gc_P G L N (cu_failB m t) n0 h by unfold cu_failB; exact hP) hn hF hn1
                  · first | exact absurd cf_89 c_100 | exact absurd c_100 cf_89
            · have hx_47 : i < 6 := Nat.lt_of_not_le fun z => c_47 ((nI_leI (a := 6) (by omega) (by omega)).mpr z)
              refine ga_lload X 4 dX1_fail_50 rfl ?_
              refine ga_aload_n X 0 dX1_fail_52 rfl rfl ?_
              refine ga_get X in_X1 (ci := 0) rfl 5 (by decide) q193 rfl hP.r0 rfl dX1_fail_53 ?_
              refine ga_iload X 5 dX1_fail_56 rfl ?_
              refine ga_zald X i rfl (by omega) (by decide) hP.r6.1 dX1_fail_58 ?_
              have J74 : ∀ (v74 : Int64), v74 = (if ((up2 (up2 t 400 (cx (cd_lowest t)) 0) 600 (cx (cd_lowest t)) 1) 600 i) = 0 then (t 500 i).toInt64 else 0) → ga Γ G h n 0 0 74 [(0, .ref (L 0 0)), (1, .int (m + 1)), (2, .int (cd_lowest t)), (3, .int (-(t 400 (cx (cd_lowest t))))), (4, .long (cd_faA (up2 (up2 t 400 (cx (cd_lowest t)) 0) 600 (cx (cd_lowest t)) 1) i)), (6, .int (nI i))] (.long v74 :: .long (cd_faA (up2 (up2 t 400 (cx (cd_lowest t)) 0) 600 (cx (cd_lowest t)) 1) i) :: []) := by
                intro v74 ev74
                subst ev74
                refine ga_ladd X dX1_fail_74 ?_
                refine ga_lstore X [(4, .long ((cd_faA (up2 (up2 t 400 (cx (cd_lowest t)) 0) 600 (cx (cd_lowest t)) 1) i) + (if ((up2 (up2 t 400 (cx (cd_lowest t)) 0) 600 (cx (cd_lowest t)) 1) 600 i) = 0 then (t 500 i).toInt64 else 0))), (0, .ref (L 0 0)), (1, .int (m + 1)), (2, .int (cd_lowest t)), (3, .int (-(t 400 (cx (cd_lowest t))))), (6, .int (nI i))] dX1_fail_75 (by decide) rfl ?_
                refine ga_iinc X 5 [(6, .int (nI (i + 1))), (4, .long ((cd_faA (up2 (up2 t 400 (cx (cd_lowest t)) 0) 600 (cx (cd_lowest t)) 1) i) + (if ((up2 (up2 t 400 (cx (cd_lowest t)) 0) 600 (cx (cd_lowest t)) 1) 600 i) = 0 then (t 500 i).toInt64 else 0))), (0, .ref (L 0 0)), (1, .int (m + 1)), (2, .int (cd_lowest t)), (3, .int (-(t 400 (cx (cd_lowest t)))))] dX1_fail_77 rfl (nI_1 i) (by decide) rfl ?_
                refine ga_goto X (tgt := 43) dX1_fail_80 (by decide) ?_
                refine ga_sub [2, 3, 4, 5, 1, 0] rfl ?_
                exact ih43 (i + 1) _ _ (by omega) (by omega) ((cd_faA_s (up2 (up2 t 400 (cx (cd_lowest t)) 0) 600 (cx (cd_lowest t)) 1) i).symm) rfl
              refine ga_if_eq X (tgt := 66) dX1_fail_59 (by decide) (fun c_59 => ?_) (fun c_59 => ?_)
              · refine ga_aload_n X 0 dX1_fail_66 rfl rfl ?_
                refine ga_get X in_X1 (ci := 0) rfl 4 (by decide) q192 rfl hP.r0 rfl dX1_fail_67 ?_
                refine ga_iload X 5 dX1_fail_70 rfl ?_
                refine ga_iald X i rfl (by omega) (by decide) hP.r5 dX1_fail_72 ?_
                refine ga_st (st' := .int (t 500 i) :: .long (cd_faA (up2 (up2 t 400 (cx (cd_lowest t)) 0) 600 (cx (cd_lowest t)) 1) i) :: []) (by rw [show (up2 (up2 t 400 (cx (cd_lowest t)) 0) 600 (cx (cd_lowest t)) 1) 500 i = (t 500 i) from rfl]) ?_
                refine ga_i2l X dX1_fail_73 rfl ?_
                exact J74 _ ((if_pos c_59).symm)
              · refine ga_lconst X (v := 0) dX1_fail_62 (by decide) ?_
                refine ga_goto X (tgt := 74) dX1_fail_63 (by decide) ?_
                exact J74 _ ((if_neg c_59).symm)
        refine ga_sub [4, 2, 5, 3, 1, 0] rfl ?_
        exact L43 (6 + 1) 0 _ _ (by omega) (by omega) rfl rfl
  refine ga_sub [2, 1, 0] rfl ?_
  exact L7 7 0 τ h n _ _ (by have := gc_nf_le τ 6; omega) rfl rfl rfl hP hn hF hn1 
