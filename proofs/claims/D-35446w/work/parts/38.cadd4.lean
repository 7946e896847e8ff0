/-! list.add(element) over the picture: a row -/
set_option maxRecDepth 100000
section GAB
variable {Γ : ga_F} {G : ga_X} {L N N1 : gc_L} {τ τ' : gm_S} {h h1 : ga_H} {n n0 n1 cells slots pc kl d t : Nat} {x : va_E} {lv : List (Nat × Value)} {st : List Value} {own : String} {cc : ByteArray} {nL : Nat} {ret : Option FieldType} {Qp : Option Value → ga_H → Nat → Prop} {Xp : String → ga_H → Nat → Prop} {rm : Room}
theorem gc_el (hP : gc_P G L N τ n h) {k i : Nat} (hk : k = 30 ∨ k = 31 ∨ k = 32 ∨ k = 33 ∨ k = 34 ∨ k = 35) (hl : gc_live N k i) : ga_El h "java/lang/Object" (L k i) := by
  obtain ⟨-, -, -, y, h4, h5⟩ := hP.2 k i hl
  refine Or.inl ?_
  rcases hk with e | e | e | e | e | e <;> subst e
  · exact ⟨3, _, _, h4.trans (congrArg some h5), rfl, Or.inr q1972⟩
  · exact ⟨4, _, _, h4.trans (congrArg some h5.1), rfl, Or.inr q1973⟩
  · exact ⟨5, _, _, h4.trans (congrArg some h5), rfl, Or.inr q1974⟩
  · exact ⟨8, _, _, h4.trans (congrArg some h5), rfl, Or.inr q1980⟩
  · exact ⟨9, _, _, h4.trans (congrArg some h5.1), rfl, Or.inr q1982⟩
  · exact ⟨10, _, _, h4.trans (congrArg some h5), rfl, Or.inr q1983⟩
theorem gc_liveE (hB : gc_B N) (hkl : kl = 10 ∨ kl = 11 ∨ kl = 12 ∨ kl = 14 ∨ kl = 15) (hd : d ≤ N 16 0) {j : Nat} (hj : j < N kl d) (hj2 : j < 1024) : gc_live N (kl + 20) (1024 * d + j) := by
  have q := gc_dm d j hj2
  have key : ∀ k3, k3 = kl → (1024 * d + j) / 1024 ≤ N 16 0 ∧ (1024 * d + j) % 1024 < N k3 ((1024 * d + j) / 1024) := fun k3 e => by
    subst e
    rw [q.1, q.2]
    exact ⟨hd, hj⟩
  rcases hkl with e | e | e | e | e <;> subst e <;> exact key _ rfl
theorem gc_W.trans {h2 : ga_H} (hF : gc_W L N n1 h1 h) (hq : gc_W L N n h h2) (hn : n1 ≤ n) : gc_W L N n1 h1 h2 := fun a ha hu => (hq a (by omega) hu).trans (hF a ha hu)
set_option maxHeartbeats 2000000 in
theorem gn_addrow (X : ga_E Γ G own cc nL) (Y : ga_Y Γ G ret Qp Xp rm) (hP : gc_P G L N τ n0 h) (hn : n0 ≤ n) (hW : gc_W L N n1 h1 h) (hn1 : n1 ≤ n0) {idx count : Nat} (w : ga_WF own idx RJ2 ⟨"java/util/List", "add", "(Ljava/lang/Object;)Z"⟩ yJ2_add cJ2_add 2 (some FieldType.boolean) 1)
    (hkl : kl = 10 ∨ kl = 11 ∨ kl = 12 ∨ kl = 14 ∨ kl = 15) (hd : d ≤ N 16 0) (hm : N kl d < gc_mx kl) (hN1 : ∀ k i, k ≠ 64 → k ≠ 65 → N1 k i = N k i) (h64 : ∀ i, gc_live N 34 i → N1 64 i = N 64 i ∧ N1 65 i = N 65 i)
    (ht : h t = some x) (htn : n0 ≤ t) (htl : t < n) (hxe : ga_El h "java/lang/Object" t) (hτ : ∀ key j, ¬ (key / 100 = kl + 20 ∧ j = 1024 * d + N kl d) → τ' key j = τ key j)
    (hok : ∀ L2 N2, (∀ j, j < N 66 d → L2 33 (1024 * d + j) = L 33 (1024 * d + j)) → N2 64 (1024 * d + N kl d) = N1 64 (1024 * d + N kl d) → N2 65 (1024 * d + N kl d) = N1 65 (1024 * d + N kl d) → (∀ d, N2 66 d = N 66 d) → gc_ok G L2 N2 (up2 τ' (100 * kl) d (τ (100 * kl) d + 1)) (kl + 20) (1024 * d + N kl d) x)
    (hR : 8 ≤ rm.frames ∧ 300 ≤ rm.locals) (hf : cells + 1 ≤ rm.cells ∧ slots + 900 ≤ rm.slots) (hw : (st.map fun v => v.category).sum ≤ 8) (hdg : decode cc pc = .ok (.invokeinterface idx count, 5))
    (kk : ∀ (L' : gc_L) (h' : ga_H) (n' : Nat), gc_P G L' (up3 (up3 N1 kl d (N kl d + 1)) (kl + 10) d (gc_cap (N kl d) (N (kl + 10) d))) (up2 τ' (100 * kl) d (τ (100 * kl) d + 1)) n' h' → gc_G L N L' (up3 (up3 N1 kl d (N kl d + 1)) (kl + 10) d (gc_cap (N kl d) (N (kl + 10) d))) n0 → gc_W L N n1 h1 h' → n ≤ n' → (∀ k i, gc_live N k i → ¬ (k = kl + 10 ∧ i = d) → L' k i = L k i) → ga Γ G h' n' (cells + 1) (slots + 900) (pc + 5) lv (.int 1 :: st)) : ga Γ G h n cells slots pc lv (.ref t :: .ref (L kl d) :: st) := by
  have hmx := gc_mx_P (d := d) hP hkl
  have hl0 : gc_live N kl d := by rcases hkl with e | e | e | e | e <;> subst e <;> exact hd
  have hcell : h (L kl d) = some (ga_O 11 [.int (τ (100 * kl) d), .ref (gc_e G L N kl d), .int (nI (N kl d))]) := by
    obtain ⟨-, -, -, y, h4, h5⟩ := hP.2 kl d hl0
    rcases hkl with e | e | e | e | e <;> subst e <;> exact h4.trans (congrArg some h5)
  have hcap : N kl d ≤ N (kl + 10) d ∧ N (kl + 10) d ≤ 2000 ∧ (N (kl + 10) d ≠ 0 → 10 ≤ N (kl + 10) d) := hP.1.2.2.2.2.2 kl d (by omega) (by omega)
  have hlt0 := hP.lt hl0
  -- the row, if there is one
  have hrow : ∃ f0 : Nat → Option Nat, (N (kl + 10) d ≠ 0 → gc_live N (kl + 10) d ∧ h (L (kl + 10) d) = some (ga_R G 3 (N (kl + 10) d) f0)) ∧ ∀ j, j < N kl d → f0 j = some (L (kl + 20) (1024 * d + j)) := by
    by_cases z : N (kl + 10) d = 0
    · exact ⟨fun j => some (L (kl + 20) (1024 * d + j)), fun z2 => absurd z z2, fun _ _ => rfl⟩
    · have hl1 : gc_live N (kl + 10) d := by rcases hkl with e | e | e | e | e <;> subst e <;> exact ⟨hd, z⟩
      obtain ⟨-, -, -, y, h4, h5⟩ := hP.2 (kl + 10) d hl1
      have h6 : ∃ f : Nat → Option Nat, y = ga_R G 3 (N (kl + 10) d) f ∧ ∀ j, j < N kl d → f j = some (L (kl + 20) (1024 * d + j)) := by rcases hkl with e | e | e | e | e <;> subst e <;> exact h5
      obtain ⟨f, e1, e2⟩ := h6
      exact ⟨f, fun _ => ⟨hl1, h4.trans (congrArg some e1)⟩, e2⟩
  obtain ⟨f0, hf0a, hf0b⟩ := hrow
  have hel : ∀ j, j < N kl d → ∀ y, f0 j = some y → ga_El h "java/lang/Object" y ∧ y < n := fun j hj y hy => by
    have e := (hf0b j hj).symm.trans hy
    cases e
    have hl2 := gc_liveE hP.1 hkl hd hj (by omega)
    exact ⟨gc_el hP (by omega) hl2, Nat.lt_of_lt_of_le (hP.lt hl2) hn⟩
  have hce : gc_e G L N kl d = if N (kl + 10) d = 0 then G.2.2.2 0 else L (kl + 10) d := rfl
  refine ga_addrow (NN := N (kl + 10) d) (f0 := f0) X Y w hcell (hP.A hl0) (Nat.le_trans hP.G hn) (Nat.lt_of_lt_of_le hlt0 hn) hxe htl ?_ (by omega) hR hf hw hdg (fun h' n' e' cap f' k1 k2 k3 k4 k5 k6 k7 k8 k9 kc k10 k11 => ?_)
  · by_cases z : N (kl + 10) d = 0
    · exact Or.inl ⟨z, by omega, by rw [hce, if_pos z]⟩
    · obtain ⟨z1, z2⟩ := hf0a z
      rw [hce, if_neg z]
      have h2 := hcap.2.2 z
      have hlt := hP.lt z1
      exact Or.inr ⟨z, z2, hcap.1, h2, hcap.2.1, hP.A z1, fun q => by have := (hP.2 _ _ z1).2.2.1 kl d hl0 q; omega, by omega, hel⟩
  · have hse : (e' = L (kl + 10) d ∧ gc_live N (kl + 10) d) ∨ (n ≤ e' ∧ e' < n') := by
      rcases k10 with ⟨z, e⟩ | z
      · rw [hce, if_neg z] at e
        exact Or.inl ⟨e, (hf0a z).1⟩
      · exact Or.inr z
    have hte : t ≠ L kl d := by omega
    have hte2 : t ≠ e' := by
      rcases hse with ⟨e, z⟩ | z
      · have := hP.lt z; omega
      · omega
    obtain ⟨g1, g2⟩ := gc_add (N1 := N1) (τ' := τ') (x := x) (t := t) (cap := cap) (e' := e') (n' := n') (h' := h') hP hkl hd hm (by omega) hN1 h64 k3 k4 k5 hf0b k6 k7 k8 k9 (hse.imp id (fun z => ⟨by omega, z.2, by omega⟩)) (fun b hb q1 q2 => k11 b q1 q2) ((k11 t hte hte2).trans ht) htn (by omega) hτ hok
    rw [kc] at g1 g2
    refine kk _ _ _ g1 g2 (fun a ha hu => ?_) k1 ?_
    · refine (k11 a (Ne.symm (hu _ _ hl0)) ?_).trans (hW a ha hu)
      rcases hse with ⟨e, z⟩ | z
      · rw [e]; exact Ne.symm (hu _ _ z)
      · omega
    · intro k i hl c
      refine (up3_n c).trans (up3_n (fun q => ?_))
      obtain ⟨q1, q2⟩ := q
      subst q1
      have hdm := gc_dm d (N kl d) (by omega)
      have key : ∀ k3, k3 = kl → ¬ (i / 1024 ≤ N 16 0 ∧ i % 1024 < N k3 (i / 1024)) := fun k3 e z => by
        subst e
        have z2 := z.2
        rw [q2, hdm.1, hdm.2] at z2
        omega
      rcases hkl with e | e | e | e | e <;> subst e <;> exact key _ rfl hl
end GAB
