/-! an element is added to a list of a day -/
set_option maxRecDepth 100000
section GCN
variable {G : ga_X} {L L' N N' : gc_L} {τ τ' : gm_S} {n n' n0 : Nat} {h h' : ga_H}
def gc_lN (k i k2 i2 : Nat) : Prop := (k2 = 16 ∧ i2 = 0) ∨ (20 ≤ k ∧ k ≤ 26 ∧ k2 = k ∧ i2 = i) ∨ (30 ≤ k ∧ k ≤ 35 ∧ k ≠ 33 ∧ k2 + 20 = k ∧ i2 = i / 1024) ∨ (k = 33 ∧ k2 = 66 ∧ i2 = i / 1024) ∨ (40 ≤ k ∧ k ≤ 43 ∧ k ≠ 42 ∧ k2 = 40 ∧ i2 = i) ∨ ((k = 42 ∨ k = 44) ∧ k2 = 40 ∧ i2 = i / 4)
theorem gc_live_move {k i : Nat} (hN : ∀ k2 i2, gc_lN k i k2 i2 → N' k2 i2 = N k2 i2) (hl : gc_live N' k i) : gc_live N k i := by
  have hD : N' 16 0 = N 16 0 := hN 16 0 (Or.inl ⟨rfl, rfl⟩)
  unfold gc_lN at hN
  unfold gc_live at hl ⊢
  split at hl
  · exact hl
  · exact hl
  · exact hl
  · exact hl
  · exact hl
  · exact hl
  · rw [hN 26 0 (by have hl1 := hl.1; omega)] at hl; exact hl
  · rw [hD] at hl; exact hl
  · rw [hD] at hl; exact hl
  · rw [hD] at hl; exact hl
  · rw [hD] at hl; exact hl
  · rw [hD] at hl; exact hl
  · rw [hD] at hl; exact hl
  · rw [hD] at hl; exact hl
  · rw [hD] at hl; exact hl
  · rw [hD] at hl; exact hl
  · rw [hD] at hl; exact hl
  · rw [hD, hN 20 i (by omega)] at hl; exact hl
  · rw [hD, hN 21 i (by omega)] at hl; exact hl
  · rw [hD, hN 22 i (by omega)] at hl; exact hl
  · rw [hD, hN 23 i (by omega)] at hl; exact hl
  · rw [hD, hN 24 i (by omega)] at hl; exact hl
  · rw [hD, hN 25 i (by omega)] at hl; exact hl
  · rw [hD, hN 10 (i / 1024) (by omega)] at hl; exact hl
  · rw [hD, hN 11 (i / 1024) (by omega)] at hl; exact hl
  · rw [hD, hN 12 (i / 1024) (by omega)] at hl; exact hl
  · rw [hD, hN 66 (i / 1024) (by omega)] at hl; exact hl
  · rw [hD, hN 14 (i / 1024) (by omega)] at hl; exact hl
  · rw [hD, hN 15 (i / 1024) (by omega)] at hl; exact hl
  · rw [hD, hN 40 i (by omega)] at hl; exact hl
  · rw [hD, hN 40 i (by omega)] at hl; exact hl
  · rw [hD, hN 40 i (by omega)] at hl; exact hl
  · rw [hD, hN 40 (i / 4) (by omega)] at hl; exact hl
  · rw [hD, hN 40 (i / 4) (by omega)] at hl; exact hl
  · rw [hD] at hl; exact hl
  · rw [hD] at hl; exact hl
  · rw [hD] at hl; exact hl
  · rw [hD] at hl; exact hl
  · exact hl
/-- the new cells were there, or are new -/
def gc_G (L N L' N' : gc_L) (n1 : Nat) : Prop := ∀ k i, gc_live N' k i → n1 ≤ L' k i ∨ ∃ k2 i2, gc_live N k2 i2 ∧ L k2 i2 = L' k i
theorem gc_P.addG {kl il a e' : Nat} {x xl xr : va_E} (hkl : 10 ≤ kl ∧ kl ≤ 15 ∧ kl ≠ 13) (hP : gc_P G L N τ n0 h) (hil : il ≤ N 16 0) (hn : n0 ≤ n') (hB : gc_B N')
    (hN : ∀ k2 i2, k2 ≠ 64 → k2 ≠ 65 → ¬ (k2 = kl ∧ i2 = il) → ¬ (k2 = kl + 10 ∧ i2 = il) → N' k2 i2 = N k2 i2) (hNl : N' kl il = N kl il + 1) (h64 : ∀ i2, gc_live N 34 i2 → N' 64 i2 = N 64 i2 ∧ N' 65 i2 = N 65 i2)
    (hL : ∀ k2 i2, gc_live N k2 i2 → ¬ (k2 = kl + 10 ∧ i2 = il) → L' k2 i2 = L k2 i2) (hLn : L' (kl + 20) (1024 * il + N kl il) = a) (hLr : L' (kl + 10) il = e')
    (hτ : ∀ k i, ¬ (k = kl ∧ i = il) → ¬ (k = kl + 10 ∧ i = il) → ¬ (k = kl + 20 ∧ i = 1024 * il + N kl il) → ∀ key j, key / 100 = k → gc_own k j = i → τ' key j = τ key j)
    (hox : h' a = some x) (hokx : gc_ok G L' N' τ' (kl + 20) (1024 * il + N kl il) x) (hol : h' (L kl il) = some xl) (hokl : gc_ok G L' N' τ' kl il xl) (hor : h' e' = some xr) (hokr : gc_ok G L' N' τ' (kl + 10) il xr)
    (ha : n0 ≤ a) (han : a < n') (he : (e' = L (kl + 10) il ∧ gc_live N (kl + 10) il) ∨ (n0 ≤ e' ∧ e' < n' ∧ e' ≠ a)) (ho : ∀ b, b < n0 → b ≠ L kl il → b ≠ e' → h' b = h b) : gc_P G L' N' τ' n' h' ∧ gc_G L N L' N' n0 := by
  have hl0 : gc_live N kl il := by
    have : kl = 10 ∨ kl = 11 ∨ kl = 12 ∨ kl = 14 ∨ kl = 15 := by omega
    rcases this with e | e | e | e | e <;> subst e <;> exact hil
  have hLl : L' kl il = L kl il := hL kl il hl0 (by omega)
  have hA0 : G.2.1 ≤ n0 := hP.G
  have h66 : ∀ d, N 66 d ≤ N' 66 d := fun d => Nat.le_of_eq (hN 66 d (by decide) (by decide) (by omega) (by omega)).symm
  have hD : N' 16 0 = N 16 0 := hN 16 0 (by decide) (by decide) (by omega) (by omega)
  -- addresses of what was there
  have old : ∀ k2 i2, gc_live N' k2 i2 → ¬ ((k2 = kl ∧ i2 = il) ∨ (k2 = kl + 10 ∧ i2 = il) ∨ (k2 = kl + 20 ∧ i2 = 1024 * il + N kl il)) → gc_live N k2 i2 ∧ L' k2 i2 = L k2 i2 := fun k2 i2 hl c => by
    have g : gc_live N k2 i2 := by
      by_cases ce : k2 = kl + 20 ∧ i2 / 1024 = il
      · obtain ⟨ce1, ce2⟩ := ce
        have h3 : ¬ i2 = 1024 * il + N kl il := fun q => c (Or.inr (Or.inr ⟨ce1, q⟩))
        have key : ∀ k3, k3 = kl → i2 / 1024 ≤ N' 16 0 ∧ i2 % 1024 < N' k3 (i2 / 1024) → i2 / 1024 ≤ N 16 0 ∧ i2 % 1024 < N k3 (i2 / 1024) := fun k3 e hl => by
          subst e
          rw [hD, ce2, hNl] at hl
          rw [ce2]
          exact ⟨hl.1, by omega⟩
        have hk : kl = 10 ∨ kl = 11 ∨ kl = 12 ∨ kl = 14 ∨ kl = 15 := by omega
        subst ce1
        rcases hk with e | e | e | e | e <;> subst e <;> exact key _ rfl hl
      · refine gc_live_move (fun k3 i3 hd => ?_) hl
        unfold gc_lN at hd
        exact hN k3 i3 (by omega) (by omega) (by omega) (by omega)
    exact ⟨g, hL k2 i2 g (fun q => c (Or.inr (Or.inl q)))⟩
  have hae : e' ≠ a := by
    rcases he with ⟨e1, e2⟩ | ⟨-, -, e3⟩
    · have := hP.lt e2
      omega
    · exact e3
  have hle : e' ≠ L kl il := by
    rcases he with ⟨e1, e2⟩ | ⟨e1, -, -⟩
    · intro q
      have := (hP.2 _ _ e2).2.2.1 kl il hl0 (e1.symm.trans q)
      omega
    · have := hP.lt hl0
      omega
  have hG : gc_G L N L' N' n0 := fun k2 i2 hl => by
    by_cases c : (k2 = kl ∧ i2 = il) ∨ (k2 = kl + 10 ∧ i2 = il) ∨ (k2 = kl + 20 ∧ i2 = 1024 * il + N kl il)
    · rcases c with ⟨rfl, rfl⟩ | ⟨rfl, rfl⟩ | ⟨rfl, rfl⟩
      · exact Or.inr ⟨_, _, hl0, hLl.symm⟩
      · rcases he with ⟨e1, e2⟩ | ⟨e1, -, -⟩
        · exact Or.inr ⟨_, _, e2, by rw [hLr, e1]⟩
        · exact Or.inl (by rw [hLr]; exact e1)
      · exact Or.inl (by rw [hLn]; exact ha)
    · obtain ⟨q1, q2⟩ := old k2 i2 hl c
      exact Or.inr ⟨_, _, q1, q2.symm⟩
  refine ⟨?_, hG⟩
  refine gc_P.re (Ch := fun k i => (k = kl ∧ i = il) ∨ (k = kl + 10 ∧ i = il) ∨ (k = kl + 20 ∧ i = 1024 * il + N kl il)) hP hB hn (fun k i hl c => ?_) (fun k i hl c => ?_)
  · obtain ⟨g, e⟩ := old k i hl c
    have g2 := hP.lt g
    refine ⟨g, e, ho _ g2 ?_ ?_, fun y hy => gc_ok_move (fun k3 i3 hd => ?_) h66 hP.1 (fun k3 i3 hl3 hd => hL k3 i3 hl3 (by unfold gc_dL at hd; omega)) g (hτ k i (fun q => c (Or.inl q)) (fun q => c (Or.inr (Or.inl q))) (fun q => c (Or.inr (Or.inr q)))) hy⟩
    · intro q
      exact c (Or.inl ((hP.2 _ _ g).2.2.1 kl il hl0 q))
    · intro q
      rcases he with ⟨e1, e2⟩ | ⟨e1, -, -⟩
      · exact c (Or.inr (Or.inl ((hP.2 _ _ g).2.2.1 _ _ e2 (q.trans e1))))
      · omega
    · unfold gc_dN at hd
      by_cases z : k3 = 64 ∨ k3 = 65
      · have hk34 : k = 34 := by omega
        have hi3 : i3 = i := by omega
        subst hk34; subst hi3
        rcases z with z | z <;> subst z
        · exact (h64 i3 g).1
        · exact (h64 i3 g).2
      · exact hN k3 i3 (by omega) (by omega) (by omega) (by omega)
  · rcases c with ⟨rfl, rfl⟩ | ⟨rfl, rfl⟩ | ⟨rfl, rfl⟩
    · refine ⟨by rw [hLl]; exact hP.A hl0, by rw [hLl]; have := hP.lt hl0; omega, fun k2 i2 hl2 e => ?_, xl, by rw [hLl]; exact hol, hokl⟩
      by_cases c2 : (k2 = k ∧ i2 = i) ∨ (k2 = k + 10 ∧ i2 = i) ∨ (k2 = k + 20 ∧ i2 = 1024 * i + N k i)
      · rcases c2 with ⟨rfl, rfl⟩ | ⟨rfl, rfl⟩ | ⟨rfl, rfl⟩
        · exact ⟨rfl, rfl⟩
        · rw [hLl, hLr] at e; exact absurd e.symm hle
        · rw [hLl, hLn] at e; have := hP.lt hl0; omega
      · obtain ⟨q1, q2⟩ := old k2 i2 hl2 c2
        rw [hLl, q2] at e
        exact (hP.2 _ _ hl0).2.2.1 k2 i2 q1 e
    · refine ⟨by rw [hLr]; rcases he with ⟨e1, e2⟩ | ⟨e1, -, -⟩ <;> first | (rw [e1]; exact hP.A e2) | omega, by rw [hLr]; rcases he with ⟨e1, e2⟩ | ⟨-, e1, -⟩ <;> first | exact e1 | (have := hP.lt e2; omega), fun k2 i2 hl2 e => ?_, xr, by rw [hLr]; exact hor, hokr⟩
      by_cases c2 : (k2 = kl ∧ i2 = i) ∨ (k2 = kl + 10 ∧ i2 = i) ∨ (k2 = kl + 20 ∧ i2 = 1024 * i + N kl i)
      · rcases c2 with ⟨rfl, rfl⟩ | ⟨rfl, rfl⟩ | ⟨rfl, rfl⟩
        · rw [hLl, hLr] at e; exact absurd e hle
        · exact ⟨rfl, rfl⟩
        · rw [hLr, hLn] at e; exact absurd e hae
      · obtain ⟨q1, q2⟩ := old k2 i2 hl2 c2
        rw [hLr, q2] at e
        rcases he with ⟨e1, e2⟩ | ⟨e1, -, -⟩
        · exact (hP.2 _ _ e2).2.2.1 k2 i2 q1 (e1.symm.trans e)
        · have := hP.lt q1; omega
    · refine ⟨by rw [hLn]; omega, by rw [hLn]; exact han, fun k2 i2 hl2 e => ?_, x, by rw [hLn]; exact hox, hokx⟩
      by_cases c2 : (k2 = kl ∧ i2 = il) ∨ (k2 = kl + 10 ∧ i2 = il) ∨ (k2 = kl + 20 ∧ i2 = 1024 * il + N kl il)
      · rcases c2 with ⟨rfl, rfl⟩ | ⟨rfl, rfl⟩ | ⟨rfl, rfl⟩
        · rw [hLl, hLn] at e; have := hP.lt hl0; omega
        · rw [hLr, hLn] at e; exact absurd e.symm hae
        · exact ⟨rfl, rfl⟩
      · obtain ⟨q1, q2⟩ := old k2 i2 hl2 c2
        rw [hLn, q2] at e
        have := hP.lt q1; omega
end GCN
