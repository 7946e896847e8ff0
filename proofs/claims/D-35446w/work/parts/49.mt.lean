/-! exchange and bestFor: what match needs of them -/
set_option maxRecDepth 100000
/-- places that are 0 -/
def nz (f : Nat → Int32) : Nat → Nat
  | 0 => 0
  | k + 1 => nz f k + (if f k = 0 then 1 else 0)
theorem nz_le (f : Nat → Int32) (k : Nat) : nz f k ≤ k := by
  induction k with
  | zero => exact Nat.le_refl _
  | succ k ih => unfold nz; split <;> omega
theorem nz_eq {f g : Nat → Int32} {k : Nat} (h : ∀ j, j < k → g j = f j) : nz g k = nz f k := by
  induction k with
  | zero => rfl
  | succ k ih => unfold nz; rw [ih (fun j hj => h j (by omega)), h k (by omega)]
theorem nz_up {f : Nat → Int32} {j : Nat} (h0 : f j = 0) : ∀ k, j < k → nz (upd f j 1) k + 1 = nz f k := by
  intro k
  induction k with
  | zero => intro q; exact absurd q (by omega)
  | succ k ih =>
    intro hj
    unfold nz
    by_cases e : j = k
    · subst e
      rw [nz_eq (f := f) (fun i hi => by simp [upd, Nat.ne_of_lt hi]), h0]
      simp [upd]
    · have := ih (by omega)
      rw [show upd f j 1 k = f k from by simp [upd, Ne.symm e]]
      split <;> omega
theorem bf_seen {τ : gm_S} {N : gc_L} {m : Nat} {sn : Nat → Int32} : ∀ i : Nat, cd_bfL τ N m sn i = -1 ∨ ∃ j, j < i ∧ cd_bfL τ N m sn i = nI j ∧ sn j = 0 ∧ ¬ τ 3305 (1024 * (N 16 0) + j) ≤ 0 ∧ ¬ τ 3303 (1024 * (N 16 0) + j) = τ 3303 (1024 * (N 16 0) + m) := by
  intro i
  induction i with
  | zero => exact Or.inl rfl
  | succ i ih =>
    rw [cd_bfL_s]
    split
    · rename_i hc
      exact Or.inr ⟨i, by omega, rfl, hc.1.1.1, hc.1.1.2.1, hc.1.1.2.2.2.1⟩
    · exact ih.imp id (fun ⟨j, h1, h2⟩ => ⟨j, by omega, h2⟩)
theorem ni_dec {k : Nat} (h : 1 ≤ k) : nI k - 1 = nI (k - 1) := by
  obtain ⟨j, rfl⟩ : ∃ j, k = j + 1 := ⟨k - 1, by omega⟩
  rw [nI_pred]; rfl
theorem ni_inc (k : Nat) : nI k + 1 = nI (k + 1) := by
  have h : nI (k + 1) - 1 = nI k := nI_pred k
  rw [← h, Int32.sub_add_cancel]
section EXL
variable {N : gc_L} {js jb y f g : Nat}
theorem cd_exB_b (t : gm_S) (hne : js ≠ jb) : cd_exB N js jb y f g t 3305 (1024 * (N 16 0) + jb) = t 3305 (1024 * (N 16 0) + jb) - 1 := by
  unfold cd_exB
  rw [up2_ss, up2_at, if_neg (by omega), cu_move_n (by decide)]
theorem cd_exB_o (t : gm_S) {i : Nat} (h1 : i ≠ 1024 * (N 16 0) + js) (h2 : i ≠ 1024 * (N 16 0) + jb) : cd_exB N js jb y f g t 3305 i = t 3305 i := by
  unfold cd_exB
  rw [up2_at, if_neg h2, up2_at, if_neg h1, cu_move_n (by decide)]
theorem cd_exL_n (k : Nat) (h : k ≠ 4200) (h2 : k ≠ 3305) : ∀ (fu : Nat) (u : Int32) (t : gm_S), (cd_exL N js jb y f g fu u t).2 k = t k := by
  intro fu
  induction fu with
  | zero => intro u t; rfl
  | succ fu ih =>
    intro u t
    rw [cd_exL_s]
    split
    · rfl
    · rw [ih]; exact cd_exB_n _ _ _ _ _ _ _ h h2
/-- what is left, and how much is traded -/
theorem cd_exL_w (hne : js ≠ jb) : ∀ (fu : Nat) (u : Int32) (t : gm_S) (w a b : Nat), u = nI w → t 3305 (1024 * (N 16 0) + js) = nI a → t 3305 (1024 * (N 16 0) + jb) = nI b →
    ∃ v : Nat, v ≤ a ∧ v ≤ b ∧ (cd_exL N js jb y f g fu u t).1 = nI (w + v) ∧ (cd_exL N js jb y f g fu u t).2 3305 (1024 * (N 16 0) + js) = nI (a - v) ∧ (cd_exL N js jb y f g fu u t).2 3305 (1024 * (N 16 0) + jb) = nI (b - v) ∧ ∀ i, i ≠ 1024 * (N 16 0) + js → i ≠ 1024 * (N 16 0) + jb → (cd_exL N js jb y f g fu u t).2 3305 i = t 3305 i := by
  intro fu
  induction fu with
  | zero => intro u t w a b e1 e2 e3; exact ⟨0, by omega, by omega, e1, e2, e3, fun _ _ _ => rfl⟩
  | succ fu ih =>
    intro u t w a b e1 e2 e3
    rw [cd_exL_s]
    split
    · exact ⟨0, by omega, by omega, e1, e2, e3, fun _ _ _ => rfl⟩
    · rename_i hc
      have ha := ni_pos e2 (fun z => hc (Or.inl z))
      have hb := ni_pos e3 (fun z => hc (Or.inr (Or.inl z)))
      obtain ⟨v, h1, h2, h3, h4, h5, h6⟩ := ih (u + 1) (cd_exB N js jb y f g t) (w + 1) (a - 1) (b - 1) (by rw [e1, ni_inc]) (by rw [cd_exB_l _ _ _ _ _ _ _ hne, e2, ni_dec ha]) (by rw [cd_exB_b _ hne, e3, ni_dec hb])
      refine ⟨v + 1, by omega, by omega, by rw [h3]; congr 1; omega, by rw [h4]; congr 1; omega, by rw [h5]; congr 1; omega, fun i q1 q2 => (h6 i q1 q2).trans (cd_exB_o _ q1 q2)⟩
end EXL
theorem gc_V.keepN {N N' : gc_L} {τ τ' : gm_S} (hV : gc_V N τ) (h : ∀ k, k ∈ [3000, 3001, 3002, 3003, 3004, 3005, 3100, 3101, 3102, 3103, 3104, 3105, 3200, 3201, 3202, 3203, 3204, 3300, 3301, 3302, 3303, 3304, 3500, 3501, 3502, 3503, 3504, 300] → τ' k = τ k) (h5 : ∀ d j, d ≤ N 16 0 → j < N 66 d → 0 ≤ τ' 3305 (1024 * d + j) ∧ τ' 3305 (1024 * d + j) ≤ 10)
    (h16 : N' 16 0 = N 16 0) (hN : ∀ k d, k = 10 ∨ k = 11 ∨ k = 12 ∨ k = 66 ∨ k = 15 → N' k d = N k d) : gc_V N' τ' := by
  unfold gc_V at hV ⊢
  obtain ⟨v1, v2, v3, v4, v5, v6⟩ := hV
  refine ⟨fun d j hd hj => ?_, fun d j hd hj => ?_, fun d j hd hj => ?_, fun d j hd hj => ?_, fun d j hd hj => ?_, ?_⟩
  · rw [h 3000 (by decide), h 3001 (by decide), h 3002 (by decide), h 3003 (by decide), h 3004 (by decide), h 3005 (by decide)]
    exact v1 d j (by omega) (by rw [← hN 10 d (by decide)]; exact hj)
  · rw [h 3100 (by decide), h 3101 (by decide), h 3102 (by decide), h 3103 (by decide), h 3104 (by decide), h 3105 (by decide)]
    exact v2 d j (by omega) (by rw [← hN 11 d (by decide)]; exact hj)
  · rw [h 3200 (by decide), h 3201 (by decide), h 3202 (by decide), h 3203 (by decide), h 3204 (by decide)]
    exact v3 d j (by omega) (by rw [← hN 12 d (by decide)]; exact hj)
  · rw [h16] at hd
    rw [hN 66 d (by decide)] at hj
    have := h5 d j hd hj
    rw [h 3300 (by decide), h 3301 (by decide), h 3302 (by decide), h 3303 (by decide), h 3304 (by decide)]
    have q := v4 d j hd hj
    exact ⟨q.1, q.2.1, q.2.2.1, q.2.2.2.1, q.2.2.2.2.1, this⟩
  · rw [h 3500 (by decide), h 3501 (by decide), h 3502 (by decide), h 3503 (by decide), h 3504 (by decide)]
    exact v5 d j (by omega) (by rw [← hN 15 d (by decide)]; exact hj)
  · rw [h 300 (by decide)]; exact v6
theorem r10_ni {x : Int32} (h : 0 ≤ x ∧ x ≤ 10) : ∃ a, x = nI a ∧ a ≤ 10 := ⟨cx x, cx_e h, by have := cx_lt h (m := 11) (by decide) (by decide); omega⟩
theorem ni_r10 {a : Nat} (h : a ≤ 10) : (0 : Int32) ≤ nI a ∧ nI a ≤ 10 := ⟨(nI_leI (a := 0) (by decide) (by omega)).mpr (Nat.zero_le _), (nI_leI (b := 10) (by omega) (by decide)).mpr h⟩
theorem gc_V.ex {N : gc_L} {τ : gm_S} {js jb y f g : Nat} (hV : gc_V N τ) (hne : js ≠ jb) (hs : js < N 66 (N 16 0)) (hb : jb < N 66 (N 16 0)) (hM : ∀ d, N 66 d ≤ 61) : gc_V N (cd_exL N js jb y f g 11 0 τ).2 := by
  obtain ⟨a, ea, ha⟩ := r10_ni (hV.r3305 (Nat.le_refl _) hs)
  obtain ⟨b, eb, hb2⟩ := r10_ni (hV.r3305 (Nat.le_refl _) hb)
  obtain ⟨v, h1, h2, h3, h4, h5, h6⟩ := cd_exL_w (y := y) (f := f) (g := g) hne 11 0 τ 0 a b rfl ea eb
  refine hV.keepN (fun k hk => cd_exL_n k (by rintro rfl; revert hk; decide) (by rintro rfl; revert hk; decide) _ _ _) (fun d j hd hj => ?_) rfl (fun _ _ _ => rfl)
  by_cases e1 : 1024 * d + j = 1024 * (N 16 0) + js
  · rw [e1, h4]; exact ni_r10 (by omega)
  · by_cases e2 : 1024 * d + j = 1024 * (N 16 0) + jb
    · rw [e2, h5]; exact ni_r10 (by omega)
    · rw [h6 _ e1 e2]; exact hV.r3305 hd hj
section GWT
variable {L N L2 N2 L3 N3 : gc_L} {n1 n a : Nat} {h1 h h' : ga_H}
theorem gc_W_G (hW : gc_W L N n1 h1 h) (hG : gc_G L N L2 N2 n1) (hq : gc_W L2 N2 n h h') (hn : n1 ≤ n) : gc_W L N n1 h1 h' := fun b hb hu => (hq b (by omega) (fun k i hl e => by
  rcases hG k i hl with z | ⟨k2, i2, z1, z2⟩
  · omega
  · exact hu k2 i2 z1 (z2.trans e))).trans (hW b hb hu)
theorem gc_G_G (hG : gc_G L N L2 N2 n1) (hq : gc_G L2 N2 L3 N3 n) (hn : n1 ≤ n) : gc_G L N L3 N3 n1 := fun k i hl => by
  rcases hq k i hl with z | ⟨k2, i2, z1, z2⟩
  · exact Or.inl (by omega)
  · rcases hG k2 i2 z1 with z | ⟨k3, i3, z3, z4⟩
    · exact Or.inl (by omega)
    · exact Or.inr ⟨k3, i3, z3, z4.trans z2⟩
theorem gc_U_G (hU : gc_U L2 N2 a) (hq : gc_G L2 N2 L3 N3 n) (ha : a < n) : gc_U L3 N3 a := fun k i hl e => by
  rcases hq k i hl with z | ⟨k2, i2, z1, z2⟩
  · omega
  · exact hU k2 i2 z1 (z2.trans e)
end GWT
