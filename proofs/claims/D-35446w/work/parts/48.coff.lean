/-! a new offer; an offer is put into its list -/
set_option maxRecDepth 100000
section GOF
variable {G : ga_X} {L L' N N' : gc_L} {τ τ' : gm_S} {n n' n0 n1 d t e' cap : Nat} {h h' h1 : ga_H} {x : va_E}
theorem gc_addO (hP : gc_P G L N τ n0 h) (hd : d ≤ N 16 0) (hm : N 66 d = N 13 d) (h13 : N 13 d < 60) (ht : h t = some x) (htn : n0 ≤ t) (htl : t < n) (hτ : ∀ key j, ¬ (key / 100 = 33 ∧ j = 1024 * d + N 66 d) → τ' key j = τ key j)
    (hok : ∀ L2 N2 : gc_L, gc_ok G L2 N2 τ' 33 (1024 * d + N 66 d) x) : gc_P G (up3 L 33 (1024 * d + N 66 d) t) (up3 N 66 d (N 66 d + 1)) τ' n h ∧ gc_G L N (up3 L 33 (1024 * d + N 66 d) t) (up3 N 66 d (N 66 d + 1)) n0 := by
  have hdm := gc_dm d (N 66 d) (by omega)
  have hA0 : G.2.1 ≤ n0 := hP.G
  have hNo : ∀ k2 i2, ¬ (k2 = 66 ∧ i2 = d) → up3 N 66 d (N 66 d + 1) k2 i2 = N k2 i2 := fun k2 i2 c => up3_n c
  have hnl : ∀ k2 i2, gc_live N k2 i2 → ¬ (k2 = 33 ∧ i2 = 1024 * d + N 66 d) := fun k2 i2 hl q => by
    obtain ⟨q1, q2⟩ := q
    subst q1
    have z2 : i2 % 1024 < N 66 (i2 / 1024) := hl.2
    rw [q2, hdm.1, hdm.2] at z2
    omega
  have hLo : ∀ k2 i2, gc_live N k2 i2 → up3 L 33 (1024 * d + N 66 d) t k2 i2 = L k2 i2 := fun k2 i2 hl => up3_n (hnl k2 i2 hl)
  have h66 : ∀ d2, N 66 d2 ≤ up3 N 66 d (N 66 d + 1) 66 d2 := fun d2 => by
    by_cases e : d2 = d
    · subst e; rw [up3_s]; omega
    · rw [up3_n (by omega)]; exact Nat.le_refl _
  have hB : gc_B (up3 N 66 d (N 66 d + 1)) := by
    obtain ⟨b1, b2, b3, b4, b5, b6⟩ := hP.1
    refine ⟨?_, ?_, ?_, ?_, fun d2 => ?_, fun k d2 q1 q2 => ?_⟩
    · rw [hNo 16 0 (by omega)]; exact b1
    · rw [hNo 26 0 (by omega)]; exact b2
    · rw [hNo 16 0 (by omega), hNo 26 0 (by omega)]; exact b3
    · rw [hNo 26 0 (by omega)]; exact b4
    · have hb := b5 d2
      rw [hNo 10 d2 (by omega), hNo 11 d2 (by omega), hNo 12 d2 (by omega), hNo 13 d2 (by omega), hNo 14 d2 (by omega), hNo 15 d2 (by omega)]
      by_cases e : d2 = d
      · subst e; rw [up3_s]; omega
      · rw [up3_n (by omega)]; exact hb
    · rw [hNo k d2 (by omega), hNo (k + 10) d2 (by omega)]; exact b6 k d2 q1 q2
  have old : ∀ k2 i2, gc_live (up3 N 66 d (N 66 d + 1)) k2 i2 → ¬ (k2 = 33 ∧ i2 = 1024 * d + N 66 d) → gc_live N k2 i2 := fun k2 i2 hl c => by
    by_cases ce : k2 = 33 ∧ i2 / 1024 = d
    · obtain ⟨ce1, ce2⟩ := ce
      subst ce1
      have hl1 : i2 / 1024 ≤ up3 N 66 d (N 66 d + 1) 16 0 := hl.1
      have hl2 : i2 % 1024 < up3 N 66 d (N 66 d + 1) 66 (i2 / 1024) := hl.2
      rw [hNo 16 0 (by omega)] at hl1
      rw [ce2, up3_s] at hl2
      show i2 / 1024 ≤ N 16 0 ∧ i2 % 1024 < N 66 (i2 / 1024)
      rw [ce2]
      have : ¬ i2 = 1024 * d + N 66 d := fun q => c ⟨rfl, q⟩
      exact ⟨by omega, by omega⟩
    · refine gc_live_move (fun k3 i3 hd => ?_) hl
      unfold gc_lN at hd
      exact hNo k3 i3 (by omega)
  refine ⟨?_, fun k2 i2 hl => ?_⟩
  · refine gc_P.re (Ch := fun k i => k = 33 ∧ i = 1024 * d + N 66 d) hP hB (by omega) (fun k i hl c => ?_) (fun k i hl c => ?_)
    · have g := old k i hl c
      exact ⟨g, up3_n c, rfl, fun y hy => gc_ok_move (fun k3 i3 hd => hNo k3 i3 (by unfold gc_dN at hd; omega)) h66 hP.1 (fun k3 i3 hl3 _ => hLo k3 i3 hl3) g (fun key j e1 e2 => hτ key j (fun q => c ⟨e1.symm.trans q.1, by
        have hk : k = 33 := e1.symm.trans q.1
        subst hk
        exact e2.symm.trans q.2⟩)) hy⟩
    · obtain ⟨rfl, rfl⟩ := c
      refine ⟨by rw [up3_s]; omega, by rw [up3_s]; exact htl, fun k2 i2 hl2 e => ?_, x, by rw [up3_s]; exact ht, hok _ _⟩
      by_cases c2 : k2 = 33 ∧ i2 = 1024 * d + N 66 d
      · exact ⟨c2.1.symm, c2.2.symm⟩
      · rw [up3_s, up3_n c2] at e
        have := hP.lt (old k2 i2 hl2 c2)
        omega
  · by_cases c2 : k2 = 33 ∧ i2 = 1024 * d + N 66 d
    · exact Or.inl (by rw [c2.1, c2.2, up3_s]; exact htn)
    · exact Or.inr ⟨k2, i2, old k2 i2 hl c2, (up3_n c2).symm⟩
theorem gc_P.addL {xl xr : va_E} (hP : gc_P G L N τ n0 h) (hil : d ≤ N 16 0) (hn : n0 ≤ n') (hB : gc_B N')
    (hN : ∀ k2 i2, ¬ (k2 = 13 ∧ i2 = d) → ¬ (k2 = 23 ∧ i2 = d) → N' k2 i2 = N k2 i2) (hL : ∀ k2 i2, ¬ (k2 = 23 ∧ i2 = d) → L' k2 i2 = L k2 i2) (hLr : L' 23 d = e')
    (hτ : ∀ k i, ¬ (k = 13 ∧ i = d) → ∀ key j, key / 100 = k → gc_own k j = i → τ' key j = τ key j)
    (hol : h' (L 13 d) = some xl) (hokl : gc_ok G L' N' τ' 13 d xl) (hor : h' e' = some xr) (hokr : gc_ok G L' N' τ' 23 d xr)
    (he : (e' = L 23 d ∧ gc_live N 23 d) ∨ (n0 ≤ e' ∧ e' < n')) (ho : ∀ b, b < n0 → b ≠ L 13 d → b ≠ e' → h' b = h b) : gc_P G L' N' τ' n' h' ∧ gc_G L N L' N' n0 := by
  have hl0 : gc_live N 13 d := hil
  have hLl : L' 13 d = L 13 d := hL 13 d (by omega)
  have hA0 : G.2.1 ≤ n0 := hP.G
  have h66 : ∀ d2, N 66 d2 ≤ N' 66 d2 := fun d2 => Nat.le_of_eq (hN 66 d2 (by omega) (by omega)).symm
  have old : ∀ k2 i2, gc_live N' k2 i2 → ¬ ((k2 = 13 ∧ i2 = d) ∨ (k2 = 23 ∧ i2 = d)) → gc_live N k2 i2 ∧ L' k2 i2 = L k2 i2 := fun k2 i2 hl c => by
    refine ⟨gc_live_move (fun k3 i3 hd => ?_) hl, hL k2 i2 (fun q => c (Or.inr q))⟩
    unfold gc_lN at hd
    exact hN k3 i3 (by omega) (by omega)
  have hle : e' ≠ L 13 d := by
    rcases he with ⟨e1, e2⟩ | ⟨e1, -⟩
    · intro q
      have := (hP.2 _ _ e2).2.2.1 13 d hl0 (e1.symm.trans q)
      omega
    · have := hP.lt hl0
      omega
  have hG : gc_G L N L' N' n0 := fun k2 i2 hl => by
    by_cases c : (k2 = 13 ∧ i2 = d) ∨ (k2 = 23 ∧ i2 = d)
    · rcases c with ⟨rfl, rfl⟩ | ⟨rfl, rfl⟩
      · exact Or.inr ⟨_, _, hl0, hLl.symm⟩
      · rcases he with ⟨e1, e2⟩ | ⟨e1, -⟩
        · exact Or.inr ⟨_, _, e2, by rw [hLr, e1]⟩
        · exact Or.inl (by rw [hLr]; exact e1)
    · obtain ⟨q1, q2⟩ := old k2 i2 hl c
      exact Or.inr ⟨_, _, q1, q2.symm⟩
  refine ⟨?_, hG⟩
  refine gc_P.re (Ch := fun k i => (k = 13 ∧ i = d) ∨ (k = 23 ∧ i = d)) hP hB hn (fun k i hl c => ?_) (fun k i hl c => ?_)
  · obtain ⟨g, e⟩ := old k i hl c
    have g2 := hP.lt g
    refine ⟨g, e, ho _ g2 ?_ ?_, fun y hy => gc_ok_move (fun k3 i3 hd => hN k3 i3 (by unfold gc_dN at hd; omega) (by unfold gc_dN at hd; omega)) h66 hP.1 (fun k3 i3 hl3 hd => hL k3 i3 (by unfold gc_dL at hd; omega)) g (hτ k i (fun q => c (Or.inl q))) hy⟩
    · intro q
      exact c (Or.inl ((hP.2 _ _ g).2.2.1 13 d hl0 q))
    · intro q
      rcases he with ⟨e1, e2⟩ | ⟨e1, -⟩
      · exact c (Or.inr ((hP.2 _ _ g).2.2.1 _ _ e2 (q.trans e1)))
      · omega
  · rcases c with ⟨rfl, rfl⟩ | ⟨rfl, rfl⟩
    · refine ⟨by rw [hLl]; exact hP.A hl0, by rw [hLl]; have := hP.lt hl0; omega, fun k2 i2 hl2 e => ?_, xl, by rw [hLl]; exact hol, hokl⟩
      by_cases c2 : (k2 = 13 ∧ i2 = i) ∨ (k2 = 23 ∧ i2 = i)
      · rcases c2 with ⟨rfl, rfl⟩ | ⟨rfl, rfl⟩
        · exact ⟨rfl, rfl⟩
        · rw [hLl, hLr] at e; exact absurd e.symm hle
      · obtain ⟨q1, q2⟩ := old k2 i2 hl2 c2
        rw [hLl, q2] at e
        exact (hP.2 _ _ hl0).2.2.1 k2 i2 q1 e
    · refine ⟨by rw [hLr]; rcases he with ⟨e1, e2⟩ | ⟨e1, -⟩ <;> first | (rw [e1]; exact hP.A e2) | omega, by rw [hLr]; rcases he with ⟨e1, e2⟩ | ⟨-, e1⟩ <;> first | exact e1 | (have := hP.lt e2; omega), fun k2 i2 hl2 e => ?_, xr, by rw [hLr]; exact hor, hokr⟩
      by_cases c2 : (k2 = 13 ∧ i2 = i) ∨ (k2 = 23 ∧ i2 = i)
      · rcases c2 with ⟨rfl, rfl⟩ | ⟨rfl, rfl⟩
        · rw [hLl, hLr] at e; exact absurd e hle
        · exact ⟨rfl, rfl⟩
      · obtain ⟨q1, q2⟩ := old k2 i2 hl2 c2
        rw [hLr, q2] at e
        rcases he with ⟨e1, e2⟩ | ⟨e1, -⟩
        · exact (hP.2 _ _ e2).2.2.1 k2 i2 q1 (e1.symm.trans e)
        · have := hP.lt q1; omega
end GOF
section GOR
variable {Γ : ga_F} {G : ga_X} {L N : gc_L} {τ : gm_S} {h h1 : ga_H} {n n0 n1 cells slots pc d : Nat} {lv : List (Nat × Value)} {st : List Value} {own : String} {cc : ByteArray} {nL : Nat} {ret : Option FieldType} {Qp : Option Value → ga_H → Nat → Prop} {Xp : String → ga_H → Nat → Prop} {rm : Room}
set_option maxHeartbeats 2000000 in
theorem gn_addrowL (X : ga_E Γ G own cc nL) (Y : ga_Y Γ G ret Qp Xp rm) (hP : gc_P G L N τ n0 h) (hn : n0 ≤ n) (hW : gc_W L N n1 h1 h) (hn1 : n1 ≤ n0) {idx count : Nat} (w : ga_WF own idx RJ2 ⟨"java/util/List", "add", "(Ljava/lang/Object;)Z"⟩ yJ2_add cJ2_add 2 (some FieldType.boolean) 1)
    (hd : d ≤ N 16 0) (hm : N 13 d < 60) (h66 : N 13 d < N 66 d)
    (hR : 8 ≤ rm.frames ∧ 300 ≤ rm.locals) (hf : cells + 1 ≤ rm.cells ∧ slots + 900 ≤ rm.slots) (hw : (st.map fun v => v.category).sum ≤ 8) (hdg : decode cc pc = .ok (.invokeinterface idx count, 5))
    (kk : ∀ (L' : gc_L) (h' : ga_H) (n' : Nat), gc_P G L' (up3 (up3 N 13 d (N 13 d + 1)) 23 d (gc_cap (N 13 d) (N 23 d))) (up2 τ 1300 d (τ 1300 d + 1)) n' h' → gc_G L N L' (up3 (up3 N 13 d (N 13 d + 1)) 23 d (gc_cap (N 13 d) (N 23 d))) n0 → gc_W L N n1 h1 h' → n ≤ n' → (∀ k i, ¬ (k = 23 ∧ i = d) → L' k i = L k i) → ga Γ G h' n' (cells + 1) (slots + 900) (pc + 5) lv (.int 1 :: st)) : ga Γ G h n cells slots pc lv (.ref (L 33 (1024 * d + N 13 d)) :: .ref (L 13 d) :: st) := by
  have hb := hP.1.2.2.2.2.1 d
  have hl0 : gc_live N 13 d := hd
  have hcell := hP.r13 hd
  have hcap : N 13 d ≤ N 23 d ∧ N 23 d ≤ 2000 ∧ (N 23 d ≠ 0 → 10 ≤ N 23 d) := hP.1.2.2.2.2.2 13 d (by omega) (by omega)
  have hlt0 := hP.lt hl0
  have hle : gc_live N 33 (1024 * d + N 13 d) := hP.l33 hd h66
  have hlte := hP.lt hle
  have hrow : ∃ f0 : Nat → Option Nat, (N 23 d ≠ 0 → gc_live N 23 d ∧ h (L 23 d) = some (ga_R G 3 (N 23 d) f0)) ∧ ∀ j, j < N 13 d → f0 j = some (L 33 (1024 * d + j)) := by
    by_cases z : N 23 d = 0
    · exact ⟨fun j => some (L 33 (1024 * d + j)), fun z2 => absurd z z2, fun _ _ => rfl⟩
    · have hl1 : gc_live N 23 d := ⟨hd, z⟩
      obtain ⟨-, -, -, y, h4, f, e1, e2⟩ := hP.2 23 d hl1
      exact ⟨f, fun _ => ⟨hl1, h4.trans (congrArg some e1)⟩, e2⟩
  obtain ⟨f0, hf0a, hf0b⟩ := hrow
  have hel : ∀ j, j < N 13 d → ∀ y, f0 j = some y → ga_El h "java/lang/Object" y ∧ y < n := fun j hj y hy => by
    have e := (hf0b j hj).symm.trans hy
    cases e
    have hl2 := hP.l33 hd (hP.o13 hj)
    exact ⟨gc_el hP (by omega) hl2, Nat.lt_of_lt_of_le (hP.lt hl2) hn⟩
  have hce : gc_e G L N 13 d = if N 23 d = 0 then G.2.2.2 0 else L 23 d := rfl
  refine ga_addrow (NN := N 23 d) (f0 := f0) X Y w hcell (hP.A hl0) (Nat.le_trans hP.G hn) (Nat.lt_of_lt_of_le hlt0 hn) (gc_el hP (by omega) hle) (Nat.lt_of_lt_of_le hlte hn) ?_ (by omega) hR hf hw hdg (fun h' n' e' cap f' k1 k2 k3 k4 k5 k6 k7 k8 k9 kc k10 k11 => ?_)
  · by_cases z : N 23 d = 0
    · exact Or.inl ⟨z, by omega, by rw [hce, if_pos z]⟩
    · obtain ⟨z1, z2⟩ := hf0a z
      rw [hce, if_neg z]
      have h2 := hcap.2.2 z
      have hlt := hP.lt z1
      exact Or.inr ⟨z, z2, hcap.1, h2, hcap.2.1, hP.A z1, fun q => by have := (hP.2 _ _ z1).2.2.1 13 d hl0 q; omega, by omega, hel⟩
  · have hse : (e' = L 23 d ∧ gc_live N 23 d) ∨ (n ≤ e' ∧ e' < n') := by
      rcases k10 with ⟨z, e⟩ | z
      · rw [hce, if_neg z] at e
        exact Or.inl ⟨e, (hf0a z).1⟩
      · exact Or.inr z
    have hNl : up3 (up3 N 13 d (N 13 d + 1)) 23 d cap 13 d = N 13 d + 1 := (up3_n (by omega)).trans up3_s
    have hNr : up3 (up3 N 13 d (N 13 d + 1)) 23 d cap 23 d = cap := up3_s
    have hNo : ∀ k2 i2, ¬ (k2 = 13 ∧ i2 = d) → ¬ (k2 = 23 ∧ i2 = d) → up3 (up3 N 13 d (N 13 d + 1)) 23 d cap k2 i2 = N k2 i2 := fun k2 i2 q3 q4 => (up3_n q4).trans (up3_n q3)
    have hB : gc_B (up3 (up3 N 13 d (N 13 d + 1)) 23 d cap) := by
      obtain ⟨b1, b2, b3, b4, b5, b6⟩ := hP.1
      refine ⟨?_, ?_, ?_, ?_, fun d2 => ?_, fun k d2 q1 q2 => ?_⟩
      · rw [hNo 16 0 (by omega) (by omega)]; exact b1
      · rw [hNo 26 0 (by omega) (by omega)]; exact b2
      · rw [hNo 16 0 (by omega) (by omega), hNo 26 0 (by omega) (by omega)]; exact b3
      · rw [hNo 26 0 (by omega) (by omega)]; exact b4
      · have hb := b5 d2
        rw [hNo 10 d2 (by omega) (by omega), hNo 11 d2 (by omega) (by omega), hNo 12 d2 (by omega) (by omega), hNo 14 d2 (by omega) (by omega), hNo 15 d2 (by omega) (by omega), hNo 66 d2 (by omega) (by omega)]
        by_cases e : d2 = d
        · subst e; rw [hNl]; omega
        · rw [hNo 13 d2 (by omega) (by omega)]; exact hb
      · by_cases z : k = 13 ∧ d2 = d
        · obtain ⟨z1, z2⟩ := z
          subst z1; subst z2
          rw [hNl, hNr]; omega
        · rw [hNo k d2 z (by omega), hNo (k + 10) d2 (by omega) (by omega)]; exact b6 k d2 q1 q2
    obtain ⟨g1, g2⟩ := gc_P.addL (L' := up3 L 23 d e') (N' := up3 (up3 N 13 d (N 13 d + 1)) 23 d cap) (τ' := up2 τ 1300 d (τ 1300 d + 1)) (e' := e') (n' := n') (h' := h') hP hd (by omega) hB hNo (fun k2 i2 c => up3_n c) up3_s
      (fun k i c key j e1 e2 => by
        by_cases zk : key = 1300
        · subst zk
          rw [up2_at, if_neg (fun z => c ⟨e1.symm, by subst e1; exact e2.symm.trans z⟩)]
        · rw [up2_n zk]) k3 (by
        have e1 : gc_e G (up3 L 23 d e') (up3 (up3 N 13 d (N 13 d + 1)) 23 d cap) 13 d = e' := by
          unfold gc_e
          rw [show up3 (up3 N 13 d (N 13 d + 1)) 23 d cap (13 + 10) d = cap from hNr, if_neg (by omega)]
          exact up3_s
        show _ = ga_O 11 [.int (up2 τ 1300 d (τ 1300 d + 1) 1300 d), .ref (gc_e G (up3 L 23 d e') (up3 (up3 N 13 d (N 13 d + 1)) 23 d cap) 13 d), .int (nI (up3 (up3 N 13 d (N 13 d + 1)) 23 d cap 13 d))]
        rw [e1, hNl, up2_ss]) k4 ⟨f', by rw [hNr], fun j hj => by
        rw [hNl] at hj
        rw [up3_n (show ¬ (33 = 23 ∧ 1024 * d + j = d) by omega)]
        by_cases z : j = N 13 d
        · subst z; exact k6
        · exact (k5 j (by omega)).trans (hf0b j (by omega))⟩ (hse.imp id (fun z => ⟨by omega, z.2⟩)) (fun b hb q1 q2 => k11 b q1 q2)
    rw [kc] at g1 g2
    refine kk _ _ _ g1 g2 (fun a ha hu => ?_) k1 (fun k i c => up3_n c)
    refine (k11 a (Ne.symm (hu _ _ hl0)) ?_).trans (hW a ha hu)
    rcases hse with ⟨e, z⟩ | z
    · rw [e]; exact Ne.symm (hu _ _ z)
    · omega
end GOR
