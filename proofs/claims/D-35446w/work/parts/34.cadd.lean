/-! THE PICTURE when a list of a day gets an element -/
set_option maxRecDepth 100000
def up3 (L : gc_L) (k i v : Nat) : gc_L := fun a b => if a = k ∧ b = i then v else L a b
theorem up3_s {L : gc_L} {k i v : Nat} : up3 L k i v k i = v := if_pos ⟨rfl, rfl⟩
theorem up3_n {L : gc_L} {k i v a b : Nat} (h : ¬ (a = k ∧ b = i)) : up3 L k i v a b = L a b := if_neg h
section GCM
variable {G : ga_X} {L L' N N' : gc_L} {τ τ' : gm_S} {n n' n0 : Nat} {h h' : ga_H}
/-- which counts and which cells a cell's content speaks of -/
def gc_dN (k i k2 i2 : Nat) : Prop := (10 ≤ k ∧ k ≤ 26 ∧ k2 = k ∧ i2 = i) ∨ (10 ≤ k ∧ k ≤ 16 ∧ k2 = k + 10 ∧ i2 = i) ∨ (20 ≤ k ∧ k ≤ 26 ∧ k2 + 10 = k ∧ i2 = i) ∨ (k = 0 ∧ k2 = 16 ∧ i2 = 0) ∨ (k = 34 ∧ (k2 = 64 ∨ k2 = 65) ∧ i2 = i) ∨ (k = 36 ∧ k2 = 40 ∧ i2 = i)
def gc_dL (k i k2 i2 : Nat) : Prop := (k = 0 ∧ (k2 = 16 ∨ k2 = 36 ∨ (3 ≤ k2 ∧ k2 ≤ 6))) ∨ (10 ≤ k ∧ k ≤ 16 ∧ k2 = k + 10 ∧ i2 = i) ∨ (20 ≤ k ∧ k ≤ 26 ∧ k2 = k + 10) ∨ (k = 34 ∧ k2 = 33) ∨ (k = 36 ∧ i2 = i ∧ (k2 = 10 ∨ k2 = 11 ∨ k2 = 12 ∨ k2 = 13 ∨ k2 = 14 ∨ k2 = 15 ∨ k2 = 40 ∨ k2 = 45 ∨ k2 = 48 ∨ k2 = 51)) ∨ (40 ≤ k ∧ k ≤ 50 ∧ 41 ≤ k2 ∧ k2 ≤ 50)
theorem gc_ok_move {k i : Nat} {x : va_E} (hN : ∀ k2 i2, gc_dN k i k2 i2 → N' k2 i2 = N k2 i2) (h66 : ∀ d, N 66 d ≤ N' 66 d) (hB : gc_B N)
    (hL : ∀ k2 i2, gc_live N k2 i2 → gc_dL k i k2 i2 → L' k2 i2 = L k2 i2) (hl : gc_live N k i)
    (hk : ∀ key j, key / 100 = k → gc_own k j = i → τ' key j = τ key j) (hx : gc_ok G L N τ k i x) : gc_ok G L' N' τ' k i x := by
  refine gc_ok_congr hk ?_
  clear hk
  unfold gc_dN at hN
  unfold gc_dL at hL
  unfold gc_ok at hx ⊢
  split at hx
  · rw [hN 16 0 (by omega), hL 16 0 rfl (by omega), hL 36 (N 16 0) (Nat.le_refl _) (by omega), hL 3 0 rfl (by omega), hL 4 0 rfl (by omega), hL 5 0 rfl (by omega), hL 6 0 rfl (by omega)]; exact hx
  · exact hx
  · exact hx
  · exact hx
  · exact hx
  · have e1 : N' 20 i = N 20 i := hN 20 i (by omega)
    have e2 : N' 10 i = N 10 i := hN 10 i (by omega)
    have e3 : gc_e G L' N' 10 i = gc_e G L N 10 i := by
      unfold gc_e
      rw [show N' (10 + 10) i = N (10 + 10) i from e1]
      split
      · rfl
      · rename_i z
        exact hL 20 i ⟨hl, z⟩ (by omega)
    rw [e3, e2]
    exact hx
  · have e1 : N' 21 i = N 21 i := hN 21 i (by omega)
    have e2 : N' 11 i = N 11 i := hN 11 i (by omega)
    have e3 : gc_e G L' N' 11 i = gc_e G L N 11 i := by
      unfold gc_e
      rw [show N' (11 + 10) i = N (11 + 10) i from e1]
      split
      · rfl
      · rename_i z
        exact hL 21 i ⟨hl, z⟩ (by omega)
    rw [e3, e2]
    exact hx
  · have e1 : N' 22 i = N 22 i := hN 22 i (by omega)
    have e2 : N' 12 i = N 12 i := hN 12 i (by omega)
    have e3 : gc_e G L' N' 12 i = gc_e G L N 12 i := by
      unfold gc_e
      rw [show N' (12 + 10) i = N (12 + 10) i from e1]
      split
      · rfl
      · rename_i z
        exact hL 22 i ⟨hl, z⟩ (by omega)
    rw [e3, e2]
    exact hx
  · have e1 : N' 23 i = N 23 i := hN 23 i (by omega)
    have e2 : N' 13 i = N 13 i := hN 13 i (by omega)
    have e3 : gc_e G L' N' 13 i = gc_e G L N 13 i := by
      unfold gc_e
      rw [show N' (13 + 10) i = N (13 + 10) i from e1]
      split
      · rfl
      · rename_i z
        exact hL 23 i ⟨hl, z⟩ (by omega)
    rw [e3, e2]
    exact hx
  · have e1 : N' 24 i = N 24 i := hN 24 i (by omega)
    have e2 : N' 14 i = N 14 i := hN 14 i (by omega)
    have e3 : gc_e G L' N' 14 i = gc_e G L N 14 i := by
      unfold gc_e
      rw [show N' (14 + 10) i = N (14 + 10) i from e1]
      split
      · rfl
      · rename_i z
        exact hL 24 i ⟨hl, z⟩ (by omega)
    rw [e3, e2]
    exact hx
  · have e1 : N' 25 i = N 25 i := hN 25 i (by omega)
    have e2 : N' 15 i = N 15 i := hN 15 i (by omega)
    have e3 : gc_e G L' N' 15 i = gc_e G L N 15 i := by
      unfold gc_e
      rw [show N' (15 + 10) i = N (15 + 10) i from e1]
      split
      · rfl
      · rename_i z
        exact hL 25 i ⟨hl, z⟩ (by omega)
    rw [e3, e2]
    exact hx
  · have e1 : N' 26 i = N 26 i := hN 26 i (by omega)
    have e2 : N' 16 i = N 16 i := hN 16 i (by omega)
    have e3 : gc_e G L' N' 16 i = gc_e G L N 16 i := by
      unfold gc_e
      rw [show N' (16 + 10) i = N (16 + 10) i from e1]
      split
      · rfl
      · rename_i z
        exact hL 26 i (by have hl2 : i = 0 := hl; subst hl2; exact ⟨rfl, z⟩) (by omega)
    rw [e3, e2]
    exact hx
  · have e1 : N' 20 i = N 20 i := hN 20 i (by omega)
    have e2 : N' 10 i = N 10 i := hN 10 i (by omega)
    obtain ⟨f, h3, h4⟩ := hx
    rw [e1, e2]
    exact ⟨f, h3, fun j hj => (h4 j hj).trans (congrArg some (hL 30 (1024 * i + j) (by have q := gc_dm i j (by have := (hB.2.2.2.2.1 i); omega); show (1024 * i + j) / 1024 ≤ N 16 0 ∧ (1024 * i + j) % 1024 < N 10 ((1024 * i + j) / 1024); rw [q.1, q.2]; exact ⟨hl.1, hj⟩) (by omega)).symm)⟩
  · have e1 : N' 21 i = N 21 i := hN 21 i (by omega)
    have e2 : N' 11 i = N 11 i := hN 11 i (by omega)
    obtain ⟨f, h3, h4⟩ := hx
    rw [e1, e2]
    exact ⟨f, h3, fun j hj => (h4 j hj).trans (congrArg some (hL 31 (1024 * i + j) (by have q := gc_dm i j (by have := (hB.2.2.2.2.1 i); omega); show (1024 * i + j) / 1024 ≤ N 16 0 ∧ (1024 * i + j) % 1024 < N 11 ((1024 * i + j) / 1024); rw [q.1, q.2]; exact ⟨hl.1, hj⟩) (by omega)).symm)⟩
  · have e1 : N' 22 i = N 22 i := hN 22 i (by omega)
    have e2 : N' 12 i = N 12 i := hN 12 i (by omega)
    obtain ⟨f, h3, h4⟩ := hx
    rw [e1, e2]
    exact ⟨f, h3, fun j hj => (h4 j hj).trans (congrArg some (hL 32 (1024 * i + j) (by have q := gc_dm i j (by have := (hB.2.2.2.2.1 i); omega); show (1024 * i + j) / 1024 ≤ N 16 0 ∧ (1024 * i + j) % 1024 < N 12 ((1024 * i + j) / 1024); rw [q.1, q.2]; exact ⟨hl.1, hj⟩) (by omega)).symm)⟩
  · have e1 : N' 23 i = N 23 i := hN 23 i (by omega)
    have e2 : N' 13 i = N 13 i := hN 13 i (by omega)
    obtain ⟨f, h3, h4⟩ := hx
    rw [e1, e2]
    exact ⟨f, h3, fun j hj => (h4 j hj).trans (congrArg some (hL 33 (1024 * i + j) (by have q := gc_dm i j (by have := (hB.2.2.2.2.1 i); omega); show (1024 * i + j) / 1024 ≤ N 16 0 ∧ (1024 * i + j) % 1024 < N 66 ((1024 * i + j) / 1024); rw [q.1, q.2]; exact ⟨hl.1, Nat.lt_of_lt_of_le hj (hB.2.2.2.2.1 i).2.2.2.2.2.2.1⟩) (by omega)).symm)⟩
  · have e1 : N' 24 i = N 24 i := hN 24 i (by omega)
    have e2 : N' 14 i = N 14 i := hN 14 i (by omega)
    obtain ⟨f, h3, h4⟩ := hx
    rw [e1, e2]
    exact ⟨f, h3, fun j hj => (h4 j hj).trans (congrArg some (hL 34 (1024 * i + j) (by have q := gc_dm i j (by have := (hB.2.2.2.2.1 i); omega); show (1024 * i + j) / 1024 ≤ N 16 0 ∧ (1024 * i + j) % 1024 < N 14 ((1024 * i + j) / 1024); rw [q.1, q.2]; exact ⟨hl.1, hj⟩) (by omega)).symm)⟩
  · have e1 : N' 25 i = N 25 i := hN 25 i (by omega)
    have e2 : N' 15 i = N 15 i := hN 15 i (by omega)
    obtain ⟨f, h3, h4⟩ := hx
    rw [e1, e2]
    exact ⟨f, h3, fun j hj => (h4 j hj).trans (congrArg some (hL 35 (1024 * i + j) (by have q := gc_dm i j (by have := (hB.2.2.2.2.1 i); omega); show (1024 * i + j) / 1024 ≤ N 16 0 ∧ (1024 * i + j) % 1024 < N 15 ((1024 * i + j) / 1024); rw [q.1, q.2]; exact ⟨hl.1, hj⟩) (by omega)).symm)⟩
  · have e1 : N' 26 i = N 26 i := hN 26 i (by omega)
    have e2 : N' 16 i = N 16 i := hN 16 i (by omega)
    obtain ⟨f, h3, h4⟩ := hx
    rw [e1, e2]
    exact ⟨f, h3, fun j hj => (h4 j hj).trans (congrArg some (hL 36 (1024 * i + j) (by have hl2 : i = 0 := hl.1; subst hl2; show 1024 * 0 + j ≤ N 16 0; omega) (by omega)).symm)⟩
  · exact hx
  · exact hx
  · exact hx
  · exact hx
  · exact hx
  · obtain ⟨h3, h4, h5⟩ := hx
    have e64 := hN 64 i (by omega)
    have e65 := hN 65 i (by omega)
    have hl2 : i / 1024 ≤ N 16 0 ∧ i % 1024 < N 14 (i / 1024) := hl
    have hb := (hB.2.2.2.2.1 (i / 1024))
    have lv : ∀ m, m < N 66 (i / 1024) → gc_live N 33 (1024 * (i / 1024) + m) := fun m hm => by
      have q := gc_dm (i / 1024) m (by omega)
      show (1024 * (i / 1024) + m) / 1024 ≤ N 16 0 ∧ (1024 * (i / 1024) + m) % 1024 < N 66 ((1024 * (i / 1024) + m) / 1024)
      rw [q.1, q.2]
      exact ⟨hl2.1, hm⟩
    rw [e64, e65, hL 33 _ (lv _ h4) (by omega), hL 33 _ (lv _ h5) (by omega)]
    exact ⟨h3, Nat.lt_of_lt_of_le h4 (h66 _), Nat.lt_of_lt_of_le h5 (h66 _)⟩
  · have hl2 : i ≤ N 16 0 := hl
    have e40 : N' 40 i = N 40 i := hN 40 i (by omega)
    rw [e40, hL 10 i hl2 (by omega), hL 11 i hl2 (by omega), hL 12 i hl2 (by omega), hL 13 i hl2 (by omega), hL 14 i hl2 (by omega), hL 15 i hl2 (by omega), hL 45 i hl2 (by omega), hL 48 i hl2 (by omega), hL 51 i hl2 (by omega)]
    by_cases z : N 40 i = 0
    · rw [if_pos z] at hx ⊢; exact hx
    · rw [if_neg z, hL 40 i ⟨hl2, z⟩ (by omega)]; rw [if_neg z] at hx; exact hx
  · rw [hL 41 i hl (by omega), hL 43 i hl (by omega)]; exact hx
  · obtain ⟨f, h3, h4⟩ := hx; exact ⟨f, h3, fun j hj => (h4 j hj).trans (congrArg some (hL 42 _ (show (4 * i + j) / 4 ≤ N 16 0 ∧ N 40 ((4 * i + j) / 4) ≠ 0 by rw [show (4 * i + j) / 4 = i by omega]; exact hl) (by omega)).symm)⟩
  · exact hx
  · obtain ⟨f, h3, h4⟩ := hx; exact ⟨f, h3, fun j hj => (h4 j hj).trans (congrArg some (hL 44 _ (show (4 * i + j) / 4 ≤ N 16 0 ∧ N 40 ((4 * i + j) / 4) ≠ 0 by rw [show (4 * i + j) / 4 = i by omega]; exact hl) (by omega)).symm)⟩
  · exact hx
  · obtain ⟨f, h3, h4⟩ := hx; exact ⟨f, h3, fun j hj => (h4 j hj).trans (congrArg some (hL 46 _ (show (6 * i + j) / 6 ≤ N 16 0 by rw [show (6 * i + j) / 6 = i by omega]; exact hl) (by omega)).symm)⟩
  · obtain ⟨f, h3, h4⟩ := hx; exact ⟨f, h3, fun j hj => (h4 j hj).trans (congrArg some (hL 47 _ (show (3 * i + j) / 18 ≤ N 16 0 by have hl2 : i / 6 ≤ N 16 0 := hl; rw [show (3 * i + j) / 18 = i / 6 by omega]; exact hl2) (by omega)).symm)⟩
  · exact hx
  · obtain ⟨f, h3, h4⟩ := hx; exact ⟨f, h3, fun j hj => (h4 j hj).trans (congrArg some (hL 49 _ (show (6 * i + j) / 6 ≤ N 16 0 by rw [show (6 * i + j) / 6 = i by omega]; exact hl) (by omega)).symm)⟩
  · obtain ⟨f, h3, h4⟩ := hx; exact ⟨f, h3, fun j hj => (h4 j hj).trans (congrArg some (hL 50 _ (show (3 * i + j) / 18 ≤ N 16 0 by have hl2 : i / 6 ≤ N 16 0 := hl; rw [show (3 * i + j) / 18 = i / 6 by omega]; exact hl2) (by omega)).symm)⟩
  · exact hx
  · exact hx
  · trivial
/-- a picture put together anew: what isn't in Ch stays -/
theorem gc_P.re {Ch : Nat → Nat → Prop} (hP : gc_P G L N τ n0 h) (hB : gc_B N') (hn : n0 ≤ n')
    (hold : ∀ k i, gc_live N' k i → ¬ Ch k i → gc_live N k i ∧ L' k i = L k i ∧ h' (L k i) = h (L k i) ∧ ∀ x, gc_ok G L N τ k i x → gc_ok G L' N' τ' k i x)
    (hnew : ∀ k i, gc_live N' k i → Ch k i → G.2.1 ≤ L' k i ∧ L' k i < n' ∧ (∀ k2 i2, gc_live N' k2 i2 → L' k i = L' k2 i2 → k = k2 ∧ i = i2) ∧ ∃ x, h' (L' k i) = some x ∧ gc_ok G L' N' τ' k i x) : gc_P G L' N' τ' n' h' := ⟨hB, fun k i hl => by
  by_cases c : Ch k i
  · exact hnew k i hl c
  · obtain ⟨g1, g2, g3, g4⟩ := hold k i hl c
    obtain ⟨p1, p2, p3, x, p4, p5⟩ := hP.2 k i g1
    refine ⟨by rw [g2]; exact p1, by rw [g2]; omega, fun k2 i2 hl2 e => ?_, x, by rw [g2, g3]; exact p4, g4 x p5⟩
    by_cases c2 : Ch k2 i2
    · have := (hnew k2 i2 hl2 c2).2.2.1 k i hl e.symm
      exact ⟨this.1.symm, this.2.symm⟩
    · obtain ⟨q1, q2, -, -⟩ := hold k2 i2 hl2 c2
      rw [g2, q2] at e
      exact p3 k2 i2 q1 e⟩
end GCM
