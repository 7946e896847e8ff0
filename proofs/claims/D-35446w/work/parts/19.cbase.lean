/-! THE PICTURE OF GridMarket: L k i: the address of the cell of kind k, number i; N k i: how many (lists: 10..16, capacities 20..26, 40: a result is there, 64, 65: a trade's offers, 66: offers made); τ (100 k + f): ints of kind k
 kinds: 0 GridMarket, 3 limits, 4 accounts, 5 deposits, 6 failed, 10..15 lists of day i (bids, blocks, asks, offers, trades, aids), 16 days, 20..26 their rows, 30..35 elements 1024 d + j, 36 days, 40 result, 41 nets (42: 4 d + hour), 43 prices (44), 45 readings (46: 6 d + firm, 47: 18 d + 3 firm + zone), 48 isRead (49, 50), 51 settled -/
set_option maxRecDepth 100000
abbrev gc_L : Type := Nat → Nat → Nat
def gc_e (G : ga_X) (L N : gc_L) (k d : Nat) : Nat := if N (k + 10) d = 0 then G.2.2.2 0 else L (k + 10) d
def gc_B (N : gc_L) : Prop := N 16 0 ≤ 9 ∧ N 26 0 ≤ 2000 ∧ N 16 0 ≤ N 26 0 ∧ (N 26 0 ≠ 0 → 10 ≤ N 26 0) ∧ (∀ d, N 10 d ≤ 40 ∧ N 11 d ≤ 5 ∧ N 12 d ≤ 20 ∧ N 13 d ≤ 60 ∧ N 14 d ≤ 600 ∧ N 15 d ≤ 30 ∧ N 13 d ≤ N 66 d ∧ N 66 d ≤ 61) ∧ ∀ k d, 10 ≤ k → k ≤ 15 → N k d ≤ N (k + 10) d ∧ N (k + 10) d ≤ 2000 ∧ (N (k + 10) d ≠ 0 → 10 ≤ N (k + 10) d)
def gc_live (N : gc_L) (k i : Nat) : Prop := match k with
  | 0 => i = 0
  | 3 => i = 0
  | 4 => i = 0
  | 5 => i = 0
  | 6 => i = 0
  | 16 => i = 0
  | 26 => i = 0 ∧ N 26 0 ≠ 0
  | 10 => i ≤ N 16 0
  | 11 => i ≤ N 16 0
  | 12 => i ≤ N 16 0
  | 13 => i ≤ N 16 0
  | 14 => i ≤ N 16 0
  | 15 => i ≤ N 16 0
  | 36 => i ≤ N 16 0
  | 45 => i ≤ N 16 0
  | 48 => i ≤ N 16 0
  | 51 => i ≤ N 16 0
  | 20 => i ≤ N 16 0 ∧ N 20 i ≠ 0
  | 21 => i ≤ N 16 0 ∧ N 21 i ≠ 0
  | 22 => i ≤ N 16 0 ∧ N 22 i ≠ 0
  | 23 => i ≤ N 16 0 ∧ N 23 i ≠ 0
  | 24 => i ≤ N 16 0 ∧ N 24 i ≠ 0
  | 25 => i ≤ N 16 0 ∧ N 25 i ≠ 0
  | 30 => i / 1024 ≤ N 16 0 ∧ i % 1024 < N 10 (i / 1024)
  | 31 => i / 1024 ≤ N 16 0 ∧ i % 1024 < N 11 (i / 1024)
  | 32 => i / 1024 ≤ N 16 0 ∧ i % 1024 < N 12 (i / 1024)
  | 33 => i / 1024 ≤ N 16 0 ∧ i % 1024 < N 66 (i / 1024)
  | 34 => i / 1024 ≤ N 16 0 ∧ i % 1024 < N 14 (i / 1024)
  | 35 => i / 1024 ≤ N 16 0 ∧ i % 1024 < N 15 (i / 1024)
  | 40 => i ≤ N 16 0 ∧ N 40 i ≠ 0
  | 41 => i ≤ N 16 0 ∧ N 40 i ≠ 0
  | 43 => i ≤ N 16 0 ∧ N 40 i ≠ 0
  | 42 => i / 4 ≤ N 16 0 ∧ N 40 (i / 4) ≠ 0
  | 44 => i / 4 ≤ N 16 0 ∧ N 40 (i / 4) ≠ 0
  | 46 => i / 6 ≤ N 16 0
  | 49 => i / 6 ≤ N 16 0
  | 47 => i / 18 ≤ N 16 0
  | 50 => i / 18 ≤ N 16 0
  | _ => False
def gc_own (k j : Nat) : Nat := match k with
  | 3 => 0
  | 4 => 0
  | 5 => 0
  | 6 => 0
  | 42 => j / 3
  | 44 => j / 3
  | 47 => j / 4
  | 50 => j / 4
  | 51 => j / 6
  | _ => j
def gc_ok (G : ga_X) (L N : gc_L) (τ : gm_S) (k i : Nat) (x : va_E) : Prop := match k with
  | 0 => x = ga_O 0 [.ref (L 16 0), .ref (L 36 (N 16 0)), .ref (L 3 0), .ref (L 4 0), .ref (L 5 0), .ref (L 6 0), .int (τ 0 i)]
  | 3 => i = 0 ∧ x = ga_I G 3 (τ 300)
  | 4 => i = 0 ∧ x = ga_I G 6 (τ 400)
  | 5 => i = 0 ∧ x = ga_I G 6 (τ 500)
  | 6 => i = 0 ∧ x = ga_Z G 6 (τ 600) ∧ ∀ j, j < 6 → τ 600 j = 0 ∨ τ 600 j = 1
  | 10 => x = ga_O 11 [.int (τ 1000 i), .ref (gc_e G L N 10 i), .int (nI (N 10 i))]
  | 11 => x = ga_O 11 [.int (τ 1100 i), .ref (gc_e G L N 11 i), .int (nI (N 11 i))]
  | 12 => x = ga_O 11 [.int (τ 1200 i), .ref (gc_e G L N 12 i), .int (nI (N 12 i))]
  | 13 => x = ga_O 11 [.int (τ 1300 i), .ref (gc_e G L N 13 i), .int (nI (N 13 i))]
  | 14 => x = ga_O 11 [.int (τ 1400 i), .ref (gc_e G L N 14 i), .int (nI (N 14 i))]
  | 15 => x = ga_O 11 [.int (τ 1500 i), .ref (gc_e G L N 15 i), .int (nI (N 15 i))]
  | 16 => x = ga_O 11 [.int (τ 1600 i), .ref (gc_e G L N 16 i), .int (nI (N 16 i))]
  | 20 => ∃ f : Nat → Option Nat, x = ga_R G 3 (N 20 i) f ∧ ∀ j, j < N 10 i → f j = some (L 30 (1024 * i + j))
  | 21 => ∃ f : Nat → Option Nat, x = ga_R G 3 (N 21 i) f ∧ ∀ j, j < N 11 i → f j = some (L 31 (1024 * i + j))
  | 22 => ∃ f : Nat → Option Nat, x = ga_R G 3 (N 22 i) f ∧ ∀ j, j < N 12 i → f j = some (L 32 (1024 * i + j))
  | 23 => ∃ f : Nat → Option Nat, x = ga_R G 3 (N 23 i) f ∧ ∀ j, j < N 13 i → f j = some (L 33 (1024 * i + j))
  | 24 => ∃ f : Nat → Option Nat, x = ga_R G 3 (N 24 i) f ∧ ∀ j, j < N 14 i → f j = some (L 34 (1024 * i + j))
  | 25 => ∃ f : Nat → Option Nat, x = ga_R G 3 (N 25 i) f ∧ ∀ j, j < N 15 i → f j = some (L 35 (1024 * i + j))
  | 26 => ∃ f : Nat → Option Nat, x = ga_R G 3 (N 26 i) f ∧ ∀ j, j < N 16 i → f j = some (L 36 (1024 * i + j))
  | 30 => x = ga_O 3 [.int (τ 3000 i), .int (τ 3001 i), .int (τ 3002 i), .int (τ 3003 i), .int (τ 3004 i), .int (τ 3005 i), .int (τ 3006 i)]
  | 31 => x = ga_O 4 [.int (τ 3100 i), .int (τ 3101 i), .int (τ 3102 i), .int (τ 3103 i), .int (τ 3104 i), .int (τ 3105 i), .int (τ 3106 i), .int (τ 3107 i), .int (τ 3108 i)] ∧ (τ 3103 i = 0 ∨ τ 3103 i = 1) ∧ (τ 3108 i = 0 ∨ τ 3108 i = 1)
  | 32 => x = ga_O 5 [.int (τ 3200 i), .int (τ 3201 i), .int (τ 3202 i), .int (τ 3203 i), .int (τ 3204 i), .int (τ 3205 i), .int (τ 3206 i)]
  | 33 => x = ga_O 8 [.int (τ 3300 i), .int (τ 3301 i), .int (τ 3302 i), .int (τ 3303 i), .int (τ 3304 i), .int (τ 3305 i)]
  | 35 => x = ga_O 10 [.int (τ 3500 i), .int (τ 3501 i), .int (τ 3502 i), .int (τ 3503 i), .int (τ 3504 i)]
  | 34 => x = ga_O 9 [.ref (L 33 (1024 * (i / 1024) + N 64 i)), .ref (L 33 (1024 * (i / 1024) + N 65 i)), .int (τ 3402 i), .int (τ 3403 i)] ∧ N 64 i < N 66 (i / 1024) ∧ N 65 i < N 66 (i / 1024)
  | 36 => x = ga_O 1 [.ref (L 10 i), .ref (L 11 i), .ref (L 12 i), .ref (L 13 i), .ref (L 14 i), .ref (L 15 i), (if N 40 i = 0 then .null else .ref (L 40 i)), .ref (L 45 i), .ref (L 48 i), .ref (L 51 i), .int (τ 3600 i)]
  | 40 => x = ga_O 7 [.ref (L 41 i), .ref (L 43 i), .int (τ 4000 i)]
  | 41 => ∃ f : Nat → Option Nat, x = ga_R G 6 4 f ∧ ∀ j, j < 4 → f j = some (L 42 (4 * i + j))
  | 42 => ∃ f : Nat → Int32, x = ga_I G 3 f ∧ ∀ j, j < 3 → f j = τ 4200 (3 * i + j)
  | 43 => ∃ f : Nat → Option Nat, x = ga_R G 6 4 f ∧ ∀ j, j < 4 → f j = some (L 44 (4 * i + j))
  | 44 => ∃ f : Nat → Int32, x = ga_I G 3 f ∧ ∀ j, j < 3 → f j = τ 4400 (3 * i + j)
  | 45 => ∃ f : Nat → Option Nat, x = ga_R G 8 6 f ∧ ∀ j, j < 6 → f j = some (L 46 (6 * i + j))
  | 46 => ∃ f : Nat → Option Nat, x = ga_R G 6 3 f ∧ ∀ j, j < 3 → f j = some (L 47 (3 * i + j))
  | 47 => ∃ f : Nat → Int32, x = ga_I G 4 f ∧ ∀ j, j < 4 → f j = τ 4700 (4 * i + j)
  | 48 => ∃ f : Nat → Option Nat, x = ga_R G 9 6 f ∧ ∀ j, j < 6 → f j = some (L 49 (6 * i + j))
  | 49 => ∃ f : Nat → Option Nat, x = ga_R G 7 3 f ∧ ∀ j, j < 3 → f j = some (L 50 (3 * i + j))
  | 50 => ∃ f : Nat → Int32, x = ga_Z G 4 f ∧ ∀ j, j < 4 → f j = τ 5000 (4 * i + j)
  | 51 => ∃ f : Nat → Int32, x = ga_I G 6 f ∧ ∀ j, j < 6 → f j = τ 5100 (6 * i + j)
  | _ => True
def gc_P (G : ga_X) (L N : gc_L) (τ : gm_S) (n : Nat) (h : ga_H) : Prop := gc_B N ∧ ∀ k i, gc_live N k i → G.2.1 ≤ L k i ∧ L k i < n ∧ (∀ k2 i2, gc_live N k2 i2 → L k i = L k2 i2 → k = k2 ∧ i = i2) ∧ ∃ x, h (L k i) = some x ∧ gc_ok G L N τ k i x
section GCB
variable {G : ga_X} {L N : gc_L} {τ τ' : gm_S} {n n' : Nat} {h h' : ga_H}
theorem gc_P.temp (hP : gc_P G L N τ n h) (hh : ∀ a, a < n → h' a = h a) : gc_P G L N τ n h' := ⟨hP.1, fun k i hl => by
  obtain ⟨h1, h2, h3, x, h4, h5⟩ := hP.2 k i hl
  exact ⟨h1, h2, h3, x, (hh _ h2).trans h4, h5⟩⟩
theorem gc_P.mono (hP : gc_P G L N τ n h) (hn : n ≤ n') : gc_P G L N τ n' h := ⟨hP.1, fun k i hl => by
  obtain ⟨h1, h2, h3, x, h4, h5⟩ := hP.2 k i hl
  exact ⟨h1, Nat.lt_of_lt_of_le h2 hn, h3, x, h4, h5⟩⟩
theorem gc_P.lt (hP : gc_P G L N τ n h) {k i : Nat} (hl : gc_live N k i) : L k i < n := (hP.2 k i hl).2.1
theorem gc_P.A (hP : gc_P G L N τ n h) {k i : Nat} (hl : gc_live N k i) : G.2.1 ≤ L k i := (hP.2 k i hl).1
theorem gc_ok_congr {k i : Nat} {x : va_E} (hk : ∀ key j, key / 100 = k → gc_own k j = i → τ' key j = τ key j) (hx : gc_ok G L N τ k i x) : gc_ok G L N τ' k i x := by
  unfold gc_ok at hx ⊢
  split at hx
  · simp only [hk 0 i rfl rfl]; exact hx
  · obtain ⟨rfl, hx⟩ := hx; exact ⟨rfl, by rw [show τ' 300 = τ 300 from funext fun j => hk 300 j rfl rfl]; exact hx⟩
  · obtain ⟨rfl, hx⟩ := hx; exact ⟨rfl, by rw [show τ' 400 = τ 400 from funext fun j => hk 400 j rfl rfl]; exact hx⟩
  · obtain ⟨rfl, hx⟩ := hx; exact ⟨rfl, by rw [show τ' 500 = τ 500 from funext fun j => hk 500 j rfl rfl]; exact hx⟩
  · obtain ⟨rfl, hx, hb⟩ := hx; rw [show τ' 600 = τ 600 from funext fun j => hk 600 j rfl rfl]; exact ⟨rfl, hx, hb⟩
  · simp only [hk 1000 i rfl rfl]; exact hx
  · simp only [hk 1100 i rfl rfl]; exact hx
  · simp only [hk 1200 i rfl rfl]; exact hx
  · simp only [hk 1300 i rfl rfl]; exact hx
  · simp only [hk 1400 i rfl rfl]; exact hx
  · simp only [hk 1500 i rfl rfl]; exact hx
  · simp only [hk 1600 i rfl rfl]; exact hx
  · exact hx
  · exact hx
  · exact hx
  · exact hx
  · exact hx
  · exact hx
  · exact hx
  · simp only [hk 3000 i rfl rfl, hk 3001 i rfl rfl, hk 3002 i rfl rfl, hk 3003 i rfl rfl, hk 3004 i rfl rfl, hk 3005 i rfl rfl, hk 3006 i rfl rfl]; exact hx
  · simp only [hk 3100 i rfl rfl, hk 3101 i rfl rfl, hk 3102 i rfl rfl, hk 3103 i rfl rfl, hk 3104 i rfl rfl, hk 3105 i rfl rfl, hk 3106 i rfl rfl, hk 3107 i rfl rfl, hk 3108 i rfl rfl]; exact hx
  · simp only [hk 3200 i rfl rfl, hk 3201 i rfl rfl, hk 3202 i rfl rfl, hk 3203 i rfl rfl, hk 3204 i rfl rfl, hk 3205 i rfl rfl, hk 3206 i rfl rfl]; exact hx
  · simp only [hk 3300 i rfl rfl, hk 3301 i rfl rfl, hk 3302 i rfl rfl, hk 3303 i rfl rfl, hk 3304 i rfl rfl, hk 3305 i rfl rfl]; exact hx
  · simp only [hk 3500 i rfl rfl, hk 3501 i rfl rfl, hk 3502 i rfl rfl, hk 3503 i rfl rfl, hk 3504 i rfl rfl]; exact hx
  · simp only [hk 3402 i rfl rfl, hk 3403 i rfl rfl]; exact hx
  · simp only [hk 3600 i rfl rfl]; exact hx
  · simp only [hk 4000 i rfl rfl]; exact hx
  · exact hx
  · obtain ⟨f, hx, hf⟩ := hx; exact ⟨f, hx, fun j hj => (hf j hj).trans (hk 4200 (3 * i + j) rfl (show (3 * i + j) / 3 = i by omega)).symm⟩
  · exact hx
  · obtain ⟨f, hx, hf⟩ := hx; exact ⟨f, hx, fun j hj => (hf j hj).trans (hk 4400 (3 * i + j) rfl (show (3 * i + j) / 3 = i by omega)).symm⟩
  · exact hx
  · exact hx
  · obtain ⟨f, hx, hf⟩ := hx; exact ⟨f, hx, fun j hj => (hf j hj).trans (hk 4700 (4 * i + j) rfl (show (4 * i + j) / 4 = i by omega)).symm⟩
  · exact hx
  · exact hx
  · obtain ⟨f, hx, hf⟩ := hx; exact ⟨f, hx, fun j hj => (hf j hj).trans (hk 5000 (4 * i + j) rfl (show (4 * i + j) / 4 = i by omega)).symm⟩
  · obtain ⟨f, hx, hf⟩ := hx; exact ⟨f, hx, fun j hj => (hf j hj).trans (hk 5100 (6 * i + j) rfl (show (6 * i + j) / 6 = i by omega)).symm⟩
  · trivial
/-- one cell gets a new content, by one place of τ -/
theorem gc_P.up1 (hP : gc_P G L N τ n h) (key j : Nat) (v : Int32) {k i : Nat} (hk : key / 100 = k) (hi : gc_own k j = i) (hl : gc_live N k i) {x : va_E} (hx : gc_ok G L N (up2 τ key j v) k i x) : gc_P G L N (up2 τ key j v) n (ga_up h (L k i) x) := ⟨hP.1, fun k2 i2 hl2 => by
  obtain ⟨h1, h2, h3, y, h4, h5⟩ := hP.2 k2 i2 hl2
  refine ⟨h1, h2, h3, ?_⟩
  by_cases e : L k2 i2 = L k i
  · obtain ⟨e1, e2⟩ := h3 k i hl e
    subst e1; subst e2
    exact ⟨x, ga_up_s, hx⟩
  · refine ⟨y, (ga_up_n e).trans h4, gc_ok_congr (fun key2 j2 q1 q2 => ?_) h5⟩
    by_cases ek : key2 = key
    · by_cases ej : j2 = j
      · exfalso
        subst ek; subst ej
        rw [hk] at q1
        subst q1
        rw [hi] at q2
        subst q2
        exact e rfl
      · subst ek
        rw [up2_at, if_neg ej]
    · rw [up2_n ek]⟩
theorem gc_dm (d j : Nat) (hj : j < 1024) : (1024 * d + j) / 1024 = d ∧ (1024 * d + j) % 1024 = j := by omega
theorem gc_P.l0 (hP : gc_P G L N τ n h)  : gc_live N 0 0 := rfl
theorem gc_P.r0 (hP : gc_P G L N τ n h)  : h (L 0 0) = some (ga_O 0 [.ref (L 16 0), .ref (L 36 (N 16 0)), .ref (L 3 0), .ref (L 4 0), .ref (L 5 0), .ref (L 6 0), .int (τ 0 0)]) := by
  obtain ⟨-, -, -, x, h4, h5⟩ := hP.2 0 0 (rfl)
  exact h4.trans (congrArg some h5)
theorem gc_P.l3 (hP : gc_P G L N τ n h)  : gc_live N 3 0 := rfl
theorem gc_P.r3 (hP : gc_P G L N τ n h)  : h (L 3 0) = some (ga_I G 3 (τ 300)) := by
  obtain ⟨-, -, -, x, h4, h5⟩ := hP.2 3 0 (rfl)
  exact h4.trans (congrArg some h5.2)
theorem gc_P.l4 (hP : gc_P G L N τ n h)  : gc_live N 4 0 := rfl
theorem gc_P.r4 (hP : gc_P G L N τ n h)  : h (L 4 0) = some (ga_I G 6 (τ 400)) := by
  obtain ⟨-, -, -, x, h4, h5⟩ := hP.2 4 0 (rfl)
  exact h4.trans (congrArg some h5.2)
theorem gc_P.l5 (hP : gc_P G L N τ n h)  : gc_live N 5 0 := rfl
theorem gc_P.r5 (hP : gc_P G L N τ n h)  : h (L 5 0) = some (ga_I G 6 (τ 500)) := by
  obtain ⟨-, -, -, x, h4, h5⟩ := hP.2 5 0 (rfl)
  exact h4.trans (congrArg some h5.2)
theorem gc_P.l6 (hP : gc_P G L N τ n h)  : gc_live N 6 0 := rfl
theorem gc_P.r6 (hP : gc_P G L N τ n h)  : h (L 6 0) = some (ga_Z G 6 (τ 600)) ∧ ∀ j, j < 6 → τ 600 j = 0 ∨ τ 600 j = 1 := by
  obtain ⟨-, -, -, x, h4, h5⟩ := hP.2 6 0 (rfl)
  exact ⟨h4.trans (congrArg some h5.2.1), h5.2.2⟩
theorem gc_P.l10 (hP : gc_P G L N τ n h) {d : Nat} (hd : d ≤ N 16 0) : gc_live N 10 d := hd
theorem gc_P.r10 (hP : gc_P G L N τ n h) {d : Nat} (hd : d ≤ N 16 0) : h (L 10 d) = some (ga_O 11 [.int (τ 1000 d), .ref (gc_e G L N 10 d), .int (nI (N 10 d))]) := by
  obtain ⟨-, -, -, x, h4, h5⟩ := hP.2 10 d (hd)
  exact h4.trans (congrArg some h5)
theorem gc_P.ne10 (hP : gc_P G L N τ n h) {d : Nat} (hd : d ≤ N 16 0) (hj : N 10 d ≠ 0) : N 20 d ≠ 0 := by
  have hc : N 10 d ≤ N 20 d := ((hP.1.2.2.2.2.2 10 d (by decide) (by decide)) : N 10 d ≤ N 20 d ∧ N 20 d ≤ 2000 ∧ (N 20 d ≠ 0 → 10 ≤ N 20 d)).1
  omega
theorem gc_P.l20 (hP : gc_P G L N τ n h) {d : Nat} (hd : d ≤ N 16 0) (hj : N 10 d ≠ 0) : gc_live N 20 d := ⟨hd, hP.ne10 hd hj⟩
theorem gc_P.r20 (hP : gc_P G L N τ n h) {d : Nat} (hd : d ≤ N 16 0) (hj : N 10 d ≠ 0) : ∃ f : Nat → Option Nat, h (gc_e G L N 10 d) = some (ga_R G 3 (N 20 d) f) ∧ N 10 d ≤ N 20 d ∧ N 20 d ≤ 2000 ∧ (∀ j, j < N 10 d → f j = some (L 30 (1024 * d + j))) ∧ gc_e G L N 10 d = L 20 d := by
  obtain ⟨-, -, -, x, h4, f, h5, h6⟩ := hP.2 20 d (hP.l20 hd hj)
  have hc : N 10 d ≤ N 20 d ∧ N 20 d ≤ 2000 ∧ (N 20 d ≠ 0 → 10 ≤ N 20 d) := (hP.1.2.2.2.2.2 10 d (by decide) (by decide))
  have he : gc_e G L N 10 d = L 20 d := if_neg (hP.ne10 hd hj)
  exact ⟨f, by rw [he]; exact h4.trans (congrArg some h5), hc.1, hc.2.1, h6, he⟩
theorem gc_P.l11 (hP : gc_P G L N τ n h) {d : Nat} (hd : d ≤ N 16 0) : gc_live N 11 d := hd
theorem gc_P.r11 (hP : gc_P G L N τ n h) {d : Nat} (hd : d ≤ N 16 0) : h (L 11 d) = some (ga_O 11 [.int (τ 1100 d), .ref (gc_e G L N 11 d), .int (nI (N 11 d))]) := by
  obtain ⟨-, -, -, x, h4, h5⟩ := hP.2 11 d (hd)
  exact h4.trans (congrArg some h5)
theorem gc_P.ne11 (hP : gc_P G L N τ n h) {d : Nat} (hd : d ≤ N 16 0) (hj : N 11 d ≠ 0) : N 21 d ≠ 0 := by
  have hc : N 11 d ≤ N 21 d := ((hP.1.2.2.2.2.2 11 d (by decide) (by decide)) : N 11 d ≤ N 21 d ∧ N 21 d ≤ 2000 ∧ (N 21 d ≠ 0 → 10 ≤ N 21 d)).1
  omega
theorem gc_P.l21 (hP : gc_P G L N τ n h) {d : Nat} (hd : d ≤ N 16 0) (hj : N 11 d ≠ 0) : gc_live N 21 d := ⟨hd, hP.ne11 hd hj⟩
theorem gc_P.r21 (hP : gc_P G L N τ n h) {d : Nat} (hd : d ≤ N 16 0) (hj : N 11 d ≠ 0) : ∃ f : Nat → Option Nat, h (gc_e G L N 11 d) = some (ga_R G 3 (N 21 d) f) ∧ N 11 d ≤ N 21 d ∧ N 21 d ≤ 2000 ∧ (∀ j, j < N 11 d → f j = some (L 31 (1024 * d + j))) ∧ gc_e G L N 11 d = L 21 d := by
  obtain ⟨-, -, -, x, h4, f, h5, h6⟩ := hP.2 21 d (hP.l21 hd hj)
  have hc : N 11 d ≤ N 21 d ∧ N 21 d ≤ 2000 ∧ (N 21 d ≠ 0 → 10 ≤ N 21 d) := (hP.1.2.2.2.2.2 11 d (by decide) (by decide))
  have he : gc_e G L N 11 d = L 21 d := if_neg (hP.ne11 hd hj)
  exact ⟨f, by rw [he]; exact h4.trans (congrArg some h5), hc.1, hc.2.1, h6, he⟩
theorem gc_P.l12 (hP : gc_P G L N τ n h) {d : Nat} (hd : d ≤ N 16 0) : gc_live N 12 d := hd
theorem gc_P.r12 (hP : gc_P G L N τ n h) {d : Nat} (hd : d ≤ N 16 0) : h (L 12 d) = some (ga_O 11 [.int (τ 1200 d), .ref (gc_e G L N 12 d), .int (nI (N 12 d))]) := by
  obtain ⟨-, -, -, x, h4, h5⟩ := hP.2 12 d (hd)
  exact h4.trans (congrArg some h5)
theorem gc_P.ne12 (hP : gc_P G L N τ n h) {d : Nat} (hd : d ≤ N 16 0) (hj : N 12 d ≠ 0) : N 22 d ≠ 0 := by
  have hc : N 12 d ≤ N 22 d := ((hP.1.2.2.2.2.2 12 d (by decide) (by decide)) : N 12 d ≤ N 22 d ∧ N 22 d ≤ 2000 ∧ (N 22 d ≠ 0 → 10 ≤ N 22 d)).1
  omega
theorem gc_P.l22 (hP : gc_P G L N τ n h) {d : Nat} (hd : d ≤ N 16 0) (hj : N 12 d ≠ 0) : gc_live N 22 d := ⟨hd, hP.ne12 hd hj⟩
theorem gc_P.r22 (hP : gc_P G L N τ n h) {d : Nat} (hd : d ≤ N 16 0) (hj : N 12 d ≠ 0) : ∃ f : Nat → Option Nat, h (gc_e G L N 12 d) = some (ga_R G 3 (N 22 d) f) ∧ N 12 d ≤ N 22 d ∧ N 22 d ≤ 2000 ∧ (∀ j, j < N 12 d → f j = some (L 32 (1024 * d + j))) ∧ gc_e G L N 12 d = L 22 d := by
  obtain ⟨-, -, -, x, h4, f, h5, h6⟩ := hP.2 22 d (hP.l22 hd hj)
  have hc : N 12 d ≤ N 22 d ∧ N 22 d ≤ 2000 ∧ (N 22 d ≠ 0 → 10 ≤ N 22 d) := (hP.1.2.2.2.2.2 12 d (by decide) (by decide))
  have he : gc_e G L N 12 d = L 22 d := if_neg (hP.ne12 hd hj)
  exact ⟨f, by rw [he]; exact h4.trans (congrArg some h5), hc.1, hc.2.1, h6, he⟩
theorem gc_P.l13 (hP : gc_P G L N τ n h) {d : Nat} (hd : d ≤ N 16 0) : gc_live N 13 d := hd
theorem gc_P.r13 (hP : gc_P G L N τ n h) {d : Nat} (hd : d ≤ N 16 0) : h (L 13 d) = some (ga_O 11 [.int (τ 1300 d), .ref (gc_e G L N 13 d), .int (nI (N 13 d))]) := by
  obtain ⟨-, -, -, x, h4, h5⟩ := hP.2 13 d (hd)
  exact h4.trans (congrArg some h5)
theorem gc_P.ne13 (hP : gc_P G L N τ n h) {d : Nat} (hd : d ≤ N 16 0) (hj : N 13 d ≠ 0) : N 23 d ≠ 0 := by
  have hc : N 13 d ≤ N 23 d := ((hP.1.2.2.2.2.2 13 d (by decide) (by decide)) : N 13 d ≤ N 23 d ∧ N 23 d ≤ 2000 ∧ (N 23 d ≠ 0 → 10 ≤ N 23 d)).1
  omega
theorem gc_P.l23 (hP : gc_P G L N τ n h) {d : Nat} (hd : d ≤ N 16 0) (hj : N 13 d ≠ 0) : gc_live N 23 d := ⟨hd, hP.ne13 hd hj⟩
theorem gc_P.r23 (hP : gc_P G L N τ n h) {d : Nat} (hd : d ≤ N 16 0) (hj : N 13 d ≠ 0) : ∃ f : Nat → Option Nat, h (gc_e G L N 13 d) = some (ga_R G 3 (N 23 d) f) ∧ N 13 d ≤ N 23 d ∧ N 23 d ≤ 2000 ∧ (∀ j, j < N 13 d → f j = some (L 33 (1024 * d + j))) ∧ gc_e G L N 13 d = L 23 d := by
  obtain ⟨-, -, -, x, h4, f, h5, h6⟩ := hP.2 23 d (hP.l23 hd hj)
  have hc : N 13 d ≤ N 23 d ∧ N 23 d ≤ 2000 ∧ (N 23 d ≠ 0 → 10 ≤ N 23 d) := (hP.1.2.2.2.2.2 13 d (by decide) (by decide))
  have he : gc_e G L N 13 d = L 23 d := if_neg (hP.ne13 hd hj)
  exact ⟨f, by rw [he]; exact h4.trans (congrArg some h5), hc.1, hc.2.1, h6, he⟩
theorem gc_P.l14 (hP : gc_P G L N τ n h) {d : Nat} (hd : d ≤ N 16 0) : gc_live N 14 d := hd
theorem gc_P.r14 (hP : gc_P G L N τ n h) {d : Nat} (hd : d ≤ N 16 0) : h (L 14 d) = some (ga_O 11 [.int (τ 1400 d), .ref (gc_e G L N 14 d), .int (nI (N 14 d))]) := by
  obtain ⟨-, -, -, x, h4, h5⟩ := hP.2 14 d (hd)
  exact h4.trans (congrArg some h5)
theorem gc_P.ne14 (hP : gc_P G L N τ n h) {d : Nat} (hd : d ≤ N 16 0) (hj : N 14 d ≠ 0) : N 24 d ≠ 0 := by
  have hc : N 14 d ≤ N 24 d := ((hP.1.2.2.2.2.2 14 d (by decide) (by decide)) : N 14 d ≤ N 24 d ∧ N 24 d ≤ 2000 ∧ (N 24 d ≠ 0 → 10 ≤ N 24 d)).1
  omega
theorem gc_P.l24 (hP : gc_P G L N τ n h) {d : Nat} (hd : d ≤ N 16 0) (hj : N 14 d ≠ 0) : gc_live N 24 d := ⟨hd, hP.ne14 hd hj⟩
theorem gc_P.r24 (hP : gc_P G L N τ n h) {d : Nat} (hd : d ≤ N 16 0) (hj : N 14 d ≠ 0) : ∃ f : Nat → Option Nat, h (gc_e G L N 14 d) = some (ga_R G 3 (N 24 d) f) ∧ N 14 d ≤ N 24 d ∧ N 24 d ≤ 2000 ∧ (∀ j, j < N 14 d → f j = some (L 34 (1024 * d + j))) ∧ gc_e G L N 14 d = L 24 d := by
  obtain ⟨-, -, -, x, h4, f, h5, h6⟩ := hP.2 24 d (hP.l24 hd hj)
  have hc : N 14 d ≤ N 24 d ∧ N 24 d ≤ 2000 ∧ (N 24 d ≠ 0 → 10 ≤ N 24 d) := (hP.1.2.2.2.2.2 14 d (by decide) (by decide))
  have he : gc_e G L N 14 d = L 24 d := if_neg (hP.ne14 hd hj)
  exact ⟨f, by rw [he]; exact h4.trans (congrArg some h5), hc.1, hc.2.1, h6, he⟩
theorem gc_P.l15 (hP : gc_P G L N τ n h) {d : Nat} (hd : d ≤ N 16 0) : gc_live N 15 d := hd
theorem gc_P.r15 (hP : gc_P G L N τ n h) {d : Nat} (hd : d ≤ N 16 0) : h (L 15 d) = some (ga_O 11 [.int (τ 1500 d), .ref (gc_e G L N 15 d), .int (nI (N 15 d))]) := by
  obtain ⟨-, -, -, x, h4, h5⟩ := hP.2 15 d (hd)
  exact h4.trans (congrArg some h5)
theorem gc_P.ne15 (hP : gc_P G L N τ n h) {d : Nat} (hd : d ≤ N 16 0) (hj : N 15 d ≠ 0) : N 25 d ≠ 0 := by
  have hc : N 15 d ≤ N 25 d := ((hP.1.2.2.2.2.2 15 d (by decide) (by decide)) : N 15 d ≤ N 25 d ∧ N 25 d ≤ 2000 ∧ (N 25 d ≠ 0 → 10 ≤ N 25 d)).1
  omega
theorem gc_P.l25 (hP : gc_P G L N τ n h) {d : Nat} (hd : d ≤ N 16 0) (hj : N 15 d ≠ 0) : gc_live N 25 d := ⟨hd, hP.ne15 hd hj⟩
theorem gc_P.r25 (hP : gc_P G L N τ n h) {d : Nat} (hd : d ≤ N 16 0) (hj : N 15 d ≠ 0) : ∃ f : Nat → Option Nat, h (gc_e G L N 15 d) = some (ga_R G 3 (N 25 d) f) ∧ N 15 d ≤ N 25 d ∧ N 25 d ≤ 2000 ∧ (∀ j, j < N 15 d → f j = some (L 35 (1024 * d + j))) ∧ gc_e G L N 15 d = L 25 d := by
  obtain ⟨-, -, -, x, h4, f, h5, h6⟩ := hP.2 25 d (hP.l25 hd hj)
  have hc : N 15 d ≤ N 25 d ∧ N 25 d ≤ 2000 ∧ (N 25 d ≠ 0 → 10 ≤ N 25 d) := (hP.1.2.2.2.2.2 15 d (by decide) (by decide))
  have he : gc_e G L N 15 d = L 25 d := if_neg (hP.ne15 hd hj)
  exact ⟨f, by rw [he]; exact h4.trans (congrArg some h5), hc.1, hc.2.1, h6, he⟩
theorem gc_P.l16 (hP : gc_P G L N τ n h)  : gc_live N 16 0 := rfl
theorem gc_P.r16 (hP : gc_P G L N τ n h)  : h (L 16 0) = some (ga_O 11 [.int (τ 1600 0), .ref (gc_e G L N 16 0), .int (nI (N 16 0))]) := by
  obtain ⟨-, -, -, x, h4, h5⟩ := hP.2 16 0 (rfl)
  exact h4.trans (congrArg some h5)
theorem gc_P.ne16 (hP : gc_P G L N τ n h) (hj : N 16 0 ≠ 0) : N 26 0 ≠ 0 := by
  have hc : N 16 0 ≤ N 26 0 := (⟨hP.1.2.2.1, hP.1.2.1, hP.1.2.2.2.1⟩ : N 16 0 ≤ N 26 0 ∧ N 26 0 ≤ 2000 ∧ (N 26 0 ≠ 0 → 10 ≤ N 26 0)).1
  omega
theorem gc_P.l26 (hP : gc_P G L N τ n h) (hj : N 16 0 ≠ 0) : gc_live N 26 0 := ⟨rfl, hP.ne16 hj⟩
theorem gc_P.r26 (hP : gc_P G L N τ n h) (hj : N 16 0 ≠ 0) : ∃ f : Nat → Option Nat, h (gc_e G L N 16 0) = some (ga_R G 3 (N 26 0) f) ∧ N 16 0 ≤ N 26 0 ∧ N 26 0 ≤ 2000 ∧ (∀ j, j < N 16 0 → f j = some (L 36 (1024 * 0 + j))) ∧ gc_e G L N 16 0 = L 26 0 := by
  obtain ⟨-, -, -, x, h4, f, h5, h6⟩ := hP.2 26 0 (hP.l26 hj)
  have hc : N 16 0 ≤ N 26 0 ∧ N 26 0 ≤ 2000 ∧ (N 26 0 ≠ 0 → 10 ≤ N 26 0) := ⟨hP.1.2.2.1, hP.1.2.1, hP.1.2.2.2.1⟩
  have he : gc_e G L N 16 0 = L 26 0 := if_neg (hP.ne16 hj)
  exact ⟨f, by rw [he]; exact h4.trans (congrArg some h5), hc.1, hc.2.1, h6, he⟩
theorem gc_P.o13 (hP : gc_P G L N τ n h) {d j : Nat} (hj : j < N 13 d) : j < N 66 d := Nat.lt_of_lt_of_le hj (hP.1.2.2.2.2.1 d).2.2.2.2.2.2.1
theorem gc_P.l30 (hP : gc_P G L N τ n h) {d j : Nat} (hd : d ≤ N 16 0) (hj : j < N 10 d) : gc_live N 30 (1024 * d + j) := by
  have hb := (hP.1.2.2.2.2.1 d).1
  have q := gc_dm d j (by omega)
  show (1024 * d + j) / 1024 ≤ N 16 0 ∧ (1024 * d + j) % 1024 < N 10 ((1024 * d + j) / 1024)
  rw [q.1, q.2]
  exact ⟨hd, hj⟩
theorem gc_P.r30 (hP : gc_P G L N τ n h) {d j : Nat} (hd : d ≤ N 16 0) (hj : j < N 10 d) : h (L 30 (1024 * d + j)) = some (ga_O 3 [.int (τ 3000 (1024 * d + j)), .int (τ 3001 (1024 * d + j)), .int (τ 3002 (1024 * d + j)), .int (τ 3003 (1024 * d + j)), .int (τ 3004 (1024 * d + j)), .int (τ 3005 (1024 * d + j)), .int (τ 3006 (1024 * d + j))]) := by
  obtain ⟨-, -, -, x, h4, h5⟩ := hP.2 30 (1024 * d + j) (hP.l30 hd hj)
  exact h4.trans (congrArg some h5)
theorem gc_P.l31 (hP : gc_P G L N τ n h) {d j : Nat} (hd : d ≤ N 16 0) (hj : j < N 11 d) : gc_live N 31 (1024 * d + j) := by
  have hb := (hP.1.2.2.2.2.1 d).2.1
  have q := gc_dm d j (by omega)
  show (1024 * d + j) / 1024 ≤ N 16 0 ∧ (1024 * d + j) % 1024 < N 11 ((1024 * d + j) / 1024)
  rw [q.1, q.2]
  exact ⟨hd, hj⟩
theorem gc_P.r31 (hP : gc_P G L N τ n h) {d j : Nat} (hd : d ≤ N 16 0) (hj : j < N 11 d) : h (L 31 (1024 * d + j)) = some (ga_O 4 [.int (τ 3100 (1024 * d + j)), .int (τ 3101 (1024 * d + j)), .int (τ 3102 (1024 * d + j)), .int (τ 3103 (1024 * d + j)), .int (τ 3104 (1024 * d + j)), .int (τ 3105 (1024 * d + j)), .int (τ 3106 (1024 * d + j)), .int (τ 3107 (1024 * d + j)), .int (τ 3108 (1024 * d + j))]) ∧ (τ 3103 (1024 * d + j) = 0 ∨ τ 3103 (1024 * d + j) = 1) ∧ (τ 3108 (1024 * d + j) = 0 ∨ τ 3108 (1024 * d + j) = 1) := by
  obtain ⟨-, -, -, x, h4, h5, h6⟩ := hP.2 31 (1024 * d + j) (hP.l31 hd hj)
  exact ⟨h4.trans (congrArg some h5), h6⟩
theorem gc_P.l32 (hP : gc_P G L N τ n h) {d j : Nat} (hd : d ≤ N 16 0) (hj : j < N 12 d) : gc_live N 32 (1024 * d + j) := by
  have hb := (hP.1.2.2.2.2.1 d).2.2.1
  have q := gc_dm d j (by omega)
  show (1024 * d + j) / 1024 ≤ N 16 0 ∧ (1024 * d + j) % 1024 < N 12 ((1024 * d + j) / 1024)
  rw [q.1, q.2]
  exact ⟨hd, hj⟩
theorem gc_P.r32 (hP : gc_P G L N τ n h) {d j : Nat} (hd : d ≤ N 16 0) (hj : j < N 12 d) : h (L 32 (1024 * d + j)) = some (ga_O 5 [.int (τ 3200 (1024 * d + j)), .int (τ 3201 (1024 * d + j)), .int (τ 3202 (1024 * d + j)), .int (τ 3203 (1024 * d + j)), .int (τ 3204 (1024 * d + j)), .int (τ 3205 (1024 * d + j)), .int (τ 3206 (1024 * d + j))]) := by
  obtain ⟨-, -, -, x, h4, h5⟩ := hP.2 32 (1024 * d + j) (hP.l32 hd hj)
  exact h4.trans (congrArg some h5)
theorem gc_P.l33 (hP : gc_P G L N τ n h) {d j : Nat} (hd : d ≤ N 16 0) (hj : j < N 66 d) : gc_live N 33 (1024 * d + j) := by
  have hb := (hP.1.2.2.2.2.1 d).2.2.2.2.2.2.2
  have q := gc_dm d j (by omega)
  show (1024 * d + j) / 1024 ≤ N 16 0 ∧ (1024 * d + j) % 1024 < N 66 ((1024 * d + j) / 1024)
  rw [q.1, q.2]
  exact ⟨hd, hj⟩
theorem gc_P.r33 (hP : gc_P G L N τ n h) {d j : Nat} (hd : d ≤ N 16 0) (hj : j < N 66 d) : h (L 33 (1024 * d + j)) = some (ga_O 8 [.int (τ 3300 (1024 * d + j)), .int (τ 3301 (1024 * d + j)), .int (τ 3302 (1024 * d + j)), .int (τ 3303 (1024 * d + j)), .int (τ 3304 (1024 * d + j)), .int (τ 3305 (1024 * d + j))]) := by
  obtain ⟨-, -, -, x, h4, h5⟩ := hP.2 33 (1024 * d + j) (hP.l33 hd hj)
  exact h4.trans (congrArg some h5)
theorem gc_P.l34 (hP : gc_P G L N τ n h) {d j : Nat} (hd : d ≤ N 16 0) (hj : j < N 14 d) : gc_live N 34 (1024 * d + j) := by
  have hb := (hP.1.2.2.2.2.1 d).2.2.2.2.1
  have q := gc_dm d j (by omega)
  show (1024 * d + j) / 1024 ≤ N 16 0 ∧ (1024 * d + j) % 1024 < N 14 ((1024 * d + j) / 1024)
  rw [q.1, q.2]
  exact ⟨hd, hj⟩
theorem gc_P.r34 (hP : gc_P G L N τ n h) {d j : Nat} (hd : d ≤ N 16 0) (hj : j < N 14 d) : h (L 34 (1024 * d + j)) = some (ga_O 9 [.ref (L 33 (1024 * d + N 64 (1024 * d + j))), .ref (L 33 (1024 * d + N 65 (1024 * d + j))), .int (τ 3402 (1024 * d + j)), .int (τ 3403 (1024 * d + j))]) ∧ N 64 (1024 * d + j) < N 66 d ∧ N 65 (1024 * d + j) < N 66 d := by
  obtain ⟨-, -, -, x, h4, h5, h6⟩ := hP.2 34 (1024 * d + j) (hP.l34 hd hj)
  have hb := (hP.1.2.2.2.2.1 d).2.2.2.2.1
  have q := gc_dm d j (by omega)
  rw [q.1] at h5 h6
  exact ⟨h4.trans (congrArg some h5), h6⟩
theorem gc_P.l35 (hP : gc_P G L N τ n h) {d j : Nat} (hd : d ≤ N 16 0) (hj : j < N 15 d) : gc_live N 35 (1024 * d + j) := by
  have hb := (hP.1.2.2.2.2.1 d).2.2.2.2.2.1
  have q := gc_dm d j (by omega)
  show (1024 * d + j) / 1024 ≤ N 16 0 ∧ (1024 * d + j) % 1024 < N 15 ((1024 * d + j) / 1024)
  rw [q.1, q.2]
  exact ⟨hd, hj⟩
theorem gc_P.r35 (hP : gc_P G L N τ n h) {d j : Nat} (hd : d ≤ N 16 0) (hj : j < N 15 d) : h (L 35 (1024 * d + j)) = some (ga_O 10 [.int (τ 3500 (1024 * d + j)), .int (τ 3501 (1024 * d + j)), .int (τ 3502 (1024 * d + j)), .int (τ 3503 (1024 * d + j)), .int (τ 3504 (1024 * d + j))]) := by
  obtain ⟨-, -, -, x, h4, h5⟩ := hP.2 35 (1024 * d + j) (hP.l35 hd hj)
  exact h4.trans (congrArg some h5)
theorem gc_P.l36 (hP : gc_P G L N τ n h) {d : Nat} (hd : d ≤ N 16 0) : gc_live N 36 d := hd
theorem gc_P.r36 (hP : gc_P G L N τ n h) {d : Nat} (hd : d ≤ N 16 0) : h (L 36 d) = some (ga_O 1 [.ref (L 10 d), .ref (L 11 d), .ref (L 12 d), .ref (L 13 d), .ref (L 14 d), .ref (L 15 d), (if N 40 d = 0 then .null else .ref (L 40 d)), .ref (L 45 d), .ref (L 48 d), .ref (L 51 d), .int (τ 3600 d)]) := by
  obtain ⟨-, -, -, x, h4, h5⟩ := hP.2 36 d (hd)
  exact h4.trans (congrArg some h5)
theorem gc_P.l40 (hP : gc_P G L N τ n h) {d : Nat} (hd : d ≤ N 16 0) (hr : N 40 d ≠ 0) : gc_live N 40 d := ⟨hd, hr⟩
theorem gc_P.r40 (hP : gc_P G L N τ n h) {d : Nat} (hd : d ≤ N 16 0) (hr : N 40 d ≠ 0) : h (L 40 d) = some (ga_O 7 [.ref (L 41 d), .ref (L 43 d), .int (τ 4000 d)]) := by
  obtain ⟨-, -, -, x, h4, h5⟩ := hP.2 40 d (⟨hd, hr⟩)
  exact h4.trans (congrArg some h5)
theorem gc_P.l41 (hP : gc_P G L N τ n h) {d : Nat} (hd : d ≤ N 16 0) (hr : N 40 d ≠ 0) : gc_live N 41 d := ⟨hd, hr⟩
theorem gc_P.r41 (hP : gc_P G L N τ n h) {d : Nat} (hd : d ≤ N 16 0) (hr : N 40 d ≠ 0) : ∃ f : Nat → Option Nat, h (L 41 d) = some (ga_R G 6 4 f) ∧ ∀ j, j < 4 → f j = some (L 42 (4 * d + j)) := by
  obtain ⟨-, -, -, x, h4, h5⟩ := hP.2 41 d (⟨hd, hr⟩)
  obtain ⟨f, h5, h6⟩ := h5
  exact ⟨f, h4.trans (congrArg some h5), h6⟩
theorem gc_P.l43 (hP : gc_P G L N τ n h) {d : Nat} (hd : d ≤ N 16 0) (hr : N 40 d ≠ 0) : gc_live N 43 d := ⟨hd, hr⟩
theorem gc_P.r43 (hP : gc_P G L N τ n h) {d : Nat} (hd : d ≤ N 16 0) (hr : N 40 d ≠ 0) : ∃ f : Nat → Option Nat, h (L 43 d) = some (ga_R G 6 4 f) ∧ ∀ j, j < 4 → f j = some (L 44 (4 * d + j)) := by
  obtain ⟨-, -, -, x, h4, h5⟩ := hP.2 43 d (⟨hd, hr⟩)
  obtain ⟨f, h5, h6⟩ := h5
  exact ⟨f, h4.trans (congrArg some h5), h6⟩
theorem gc_P.l42 (hP : gc_P G L N τ n h) {d j : Nat} (hd : d ≤ N 16 0) (hr : N 40 d ≠ 0) (hj : j < 4) : gc_live N 42 (4 * d + j) := show (4 * d + j) / 4 ≤ N 16 0 ∧ N 40 ((4 * d + j) / 4) ≠ 0 by rw [show (4 * d + j) / 4 = d by omega]; exact ⟨hd, hr⟩
theorem gc_P.r42 (hP : gc_P G L N τ n h) {d j : Nat} (hd : d ≤ N 16 0) (hr : N 40 d ≠ 0) (hj : j < 4) : ∃ f : Nat → Int32, h (L 42 (4 * d + j)) = some (ga_I G 3 f) ∧ ∀ z, z < 3 → f z = τ 4200 (3 * (4 * d + j) + z) := by
  obtain ⟨-, -, -, x, h4, h5⟩ := hP.2 42 (4 * d + j) (show (4 * d + j) / 4 ≤ N 16 0 ∧ N 40 ((4 * d + j) / 4) ≠ 0 by rw [show (4 * d + j) / 4 = d by omega]; exact ⟨hd, hr⟩)
  obtain ⟨f, h5, h6⟩ := h5
  exact ⟨f, h4.trans (congrArg some h5), h6⟩
theorem gc_P.l44 (hP : gc_P G L N τ n h) {d j : Nat} (hd : d ≤ N 16 0) (hr : N 40 d ≠ 0) (hj : j < 4) : gc_live N 44 (4 * d + j) := show (4 * d + j) / 4 ≤ N 16 0 ∧ N 40 ((4 * d + j) / 4) ≠ 0 by rw [show (4 * d + j) / 4 = d by omega]; exact ⟨hd, hr⟩
theorem gc_P.r44 (hP : gc_P G L N τ n h) {d j : Nat} (hd : d ≤ N 16 0) (hr : N 40 d ≠ 0) (hj : j < 4) : ∃ f : Nat → Int32, h (L 44 (4 * d + j)) = some (ga_I G 3 f) ∧ ∀ z, z < 3 → f z = τ 4400 (3 * (4 * d + j) + z) := by
  obtain ⟨-, -, -, x, h4, h5⟩ := hP.2 44 (4 * d + j) (show (4 * d + j) / 4 ≤ N 16 0 ∧ N 40 ((4 * d + j) / 4) ≠ 0 by rw [show (4 * d + j) / 4 = d by omega]; exact ⟨hd, hr⟩)
  obtain ⟨f, h5, h6⟩ := h5
  exact ⟨f, h4.trans (congrArg some h5), h6⟩
theorem gc_P.l45 (hP : gc_P G L N τ n h) {d : Nat} (hd : d ≤ N 16 0) : gc_live N 45 d := hd
theorem gc_P.r45 (hP : gc_P G L N τ n h) {d : Nat} (hd : d ≤ N 16 0) : ∃ f : Nat → Option Nat, h (L 45 d) = some (ga_R G 8 6 f) ∧ ∀ j, j < 6 → f j = some (L 46 (6 * d + j)) := by
  obtain ⟨-, -, -, x, h4, h5⟩ := hP.2 45 d (hd)
  obtain ⟨f, h5, h6⟩ := h5
  exact ⟨f, h4.trans (congrArg some h5), h6⟩
theorem gc_P.l48 (hP : gc_P G L N τ n h) {d : Nat} (hd : d ≤ N 16 0) : gc_live N 48 d := hd
theorem gc_P.r48 (hP : gc_P G L N τ n h) {d : Nat} (hd : d ≤ N 16 0) : ∃ f : Nat → Option Nat, h (L 48 d) = some (ga_R G 9 6 f) ∧ ∀ j, j < 6 → f j = some (L 49 (6 * d + j)) := by
  obtain ⟨-, -, -, x, h4, h5⟩ := hP.2 48 d (hd)
  obtain ⟨f, h5, h6⟩ := h5
  exact ⟨f, h4.trans (congrArg some h5), h6⟩
theorem gc_P.l46 (hP : gc_P G L N τ n h) {d j : Nat} (hd : d ≤ N 16 0) (hj : j < 6) : gc_live N 46 (6 * d + j) := show (6 * d + j) / 6 ≤ N 16 0 by omega
theorem gc_P.r46 (hP : gc_P G L N τ n h) {d j : Nat} (hd : d ≤ N 16 0) (hj : j < 6) : ∃ f : Nat → Option Nat, h (L 46 (6 * d + j)) = some (ga_R G 6 3 f) ∧ ∀ z, z < 3 → f z = some (L 47 (3 * (6 * d + j) + z)) := by
  obtain ⟨-, -, -, x, h4, h5⟩ := hP.2 46 (6 * d + j) (show (6 * d + j) / 6 ≤ N 16 0 by omega)
  obtain ⟨f, h5, h6⟩ := h5
  exact ⟨f, h4.trans (congrArg some h5), h6⟩
theorem gc_P.l49 (hP : gc_P G L N τ n h) {d j : Nat} (hd : d ≤ N 16 0) (hj : j < 6) : gc_live N 49 (6 * d + j) := show (6 * d + j) / 6 ≤ N 16 0 by omega
theorem gc_P.r49 (hP : gc_P G L N τ n h) {d j : Nat} (hd : d ≤ N 16 0) (hj : j < 6) : ∃ f : Nat → Option Nat, h (L 49 (6 * d + j)) = some (ga_R G 7 3 f) ∧ ∀ z, z < 3 → f z = some (L 50 (3 * (6 * d + j) + z)) := by
  obtain ⟨-, -, -, x, h4, h5⟩ := hP.2 49 (6 * d + j) (show (6 * d + j) / 6 ≤ N 16 0 by omega)
  obtain ⟨f, h5, h6⟩ := h5
  exact ⟨f, h4.trans (congrArg some h5), h6⟩
theorem gc_P.l47 (hP : gc_P G L N τ n h) {d j z : Nat} (hd : d ≤ N 16 0) (hj : j < 6) (hz : z < 3) : gc_live N 47 (3 * (6 * d + j) + z) := show (3 * (6 * d + j) + z) / 18 ≤ N 16 0 by omega
theorem gc_P.r47 (hP : gc_P G L N τ n h) {d j z : Nat} (hd : d ≤ N 16 0) (hj : j < 6) (hz : z < 3) : ∃ f : Nat → Int32, h (L 47 (3 * (6 * d + j) + z)) = some (ga_I G 4 f) ∧ ∀ y, y < 4 → f y = τ 4700 (4 * (3 * (6 * d + j) + z) + y) := by
  obtain ⟨-, -, -, x, h4, h5⟩ := hP.2 47 (3 * (6 * d + j) + z) (show (3 * (6 * d + j) + z) / 18 ≤ N 16 0 by omega)
  obtain ⟨f, h5, h6⟩ := h5
  exact ⟨f, h4.trans (congrArg some h5), h6⟩
theorem gc_P.l50 (hP : gc_P G L N τ n h) {d j z : Nat} (hd : d ≤ N 16 0) (hj : j < 6) (hz : z < 3) : gc_live N 50 (3 * (6 * d + j) + z) := show (3 * (6 * d + j) + z) / 18 ≤ N 16 0 by omega
theorem gc_P.r50 (hP : gc_P G L N τ n h) {d j z : Nat} (hd : d ≤ N 16 0) (hj : j < 6) (hz : z < 3) : ∃ f : Nat → Int32, h (L 50 (3 * (6 * d + j) + z)) = some (ga_Z G 4 f) ∧ ∀ y, y < 4 → f y = τ 5000 (4 * (3 * (6 * d + j) + z) + y) := by
  obtain ⟨-, -, -, x, h4, h5⟩ := hP.2 50 (3 * (6 * d + j) + z) (show (3 * (6 * d + j) + z) / 18 ≤ N 16 0 by omega)
  obtain ⟨f, h5, h6⟩ := h5
  exact ⟨f, h4.trans (congrArg some h5), h6⟩
theorem gc_P.l51 (hP : gc_P G L N τ n h) {d : Nat} (hd : d ≤ N 16 0) : gc_live N 51 d := hd
theorem gc_P.r51 (hP : gc_P G L N τ n h) {d : Nat} (hd : d ≤ N 16 0) : ∃ f : Nat → Int32, h (L 51 d) = some (ga_I G 6 f) ∧ ∀ j, j < 6 → f j = τ 5100 (6 * d + j) := by
  obtain ⟨-, -, -, x, h4, h5⟩ := hP.2 51 d (hd)
  obtain ⟨f, h5, h6⟩ := h5
  exact ⟨f, h4.trans (congrArg some h5), h6⟩
end GCB
