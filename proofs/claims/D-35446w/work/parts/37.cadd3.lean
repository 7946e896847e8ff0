/-! adding to a list of a day: the picture; METHODS that make cells -/
set_option maxRecDepth 100000
/-- a method that may make cells: thr, its answer, the counts and ints behind it -/
def gn_C (l : Launch) (G : ga_X) (y : MethodName) (b : ByteArray) (nL : Nat) (r : Option FieldType) (rm : Room) (as : List Value) (L N : gc_L) (τ : gm_S) (thr : Int32) (v : Option Value) (N1 : gc_L) (τ' : gm_S) : Prop :=
  ∀ (h1 : ga_H) (n1 : Nat), gc_P G L N τ n1 h1 → ga_C l G y b nL r rm as h1 n1 (fun v' h' n' => thr = 0 ∧ v' = v ∧ n1 ≤ n' ∧ gc_W L N n1 h1 h' ∧ ∃ L', gc_P G L' N1 τ' n' h' ∧ gc_G L N L' N1 n1 ∧ L' 0 0 = L 0 0) (fun E h' n' => thr ≠ 0 ∧ E = ge_es thr ∧ n1 ≤ n' ∧ ∀ a, a < n1 → h' a = h1 a)
theorem gn_start {l : Launch} {G : ga_X} {y : MethodName} {b : ByteArray} {nL : Nat} {r : Option FieldType} {rm : Room} {as : List Value} {L N N1 : gc_L} {τ τ' : gm_S} {thr : Int32} {v : Option Value} (own : String) (hl : l.stackTraces = false) (ho : y.cls = own) (hy : plainName own = true) (hL : (lg_sl as).length ≤ nL)
    (body : ∀ (Γ : ga_F) (h1 h : ga_H) (n0 n1 n : Nat), ga_l Γ = l → ga_E Γ G own b nL → ga_Y Γ G r (fun v' h' n' => thr = 0 ∧ v' = v ∧ n1 ≤ n' ∧ gc_W L N n1 h1 h' ∧ ∃ L', gc_P G L' N1 τ' n' h' ∧ gc_G L N L' N1 n1 ∧ L' 0 0 = L 0 0) (fun E h' n' => thr ≠ 0 ∧ E = ge_es thr ∧ n1 ≤ n' ∧ ∀ a, a < n1 → h' a = h1 a) rm → gc_P G L N τ n0 h → n0 ≤ n → (∀ a, a < n1 → h a = h1 a) → n1 ≤ n → n0 = n1 → (∀ x ∈ (ga_c Γ).exceptionTable.toList, False) → ga Γ G h n 0 0 0 (lv_args 0 as) []) : gn_C l G y b nL r rm as L N τ thr v N1 τ' := fun h1 n1 hP =>
  ga_start hl (by rw [ho]; exact hy) hL (fun Γ e X Y _ hxt => body Γ h1 h1 n1 n1 n1 e (ho ▸ X) Y hP (Nat.le_refl _) (fun _ _ => rfl) (Nat.le_refl _) rfl hxt)
section GAA
variable {G : ga_X} {L L' N N' N1 : gc_L} {τ τ' : gm_S} {n n' n0 n1 cap kl d t e' : Nat} {h h' h1 : ga_H} {x : va_E}
theorem gc_G.refl : gc_G L N L N n1 := fun k i hl => Or.inr ⟨k, i, hl, rfl⟩
/-- how many there may be -/
def gc_mx (kl : Nat) : Nat := match kl with | 10 => 40 | 11 => 5 | 12 => 20 | 14 => 600 | 15 => 30 | _ => 0
theorem gc_mx_P (hP : gc_P G L N τ n h) (hkl : kl = 10 ∨ kl = 11 ∨ kl = 12 ∨ kl = 14 ∨ kl = 15) : N kl d ≤ gc_mx kl ∧ gc_mx kl ≤ 600 := by
  have hb := hP.1.2.2.2.2.1 d
  rcases hkl with e | e | e | e | e <;> subst e
  · exact ⟨hb.1, by decide⟩
  · exact ⟨hb.2.1, by decide⟩
  · exact ⟨hb.2.2.1, by decide⟩
  · exact ⟨hb.2.2.2.2.1, by decide⟩
  · exact ⟨hb.2.2.2.2.2.1, by decide⟩
theorem gc_B.add (hB : gc_B N) (hkl : kl = 10 ∨ kl = 11 ∨ kl = 12 ∨ kl = 14 ∨ kl = 15) (hm : N kl d < gc_mx kl) (hc : N kl d < cap) (hc2 : cap ≤ 2000) (hc3 : 10 ≤ cap) (hN1 : ∀ k i, k ≠ 64 → k ≠ 65 → N1 k i = N k i) : gc_B (up3 (up3 N1 kl d (N kl d + 1)) (kl + 10) d cap) := by
  obtain ⟨b1, b2, b3, b4, b5, b6⟩ := hB
  have q : ∀ k i, k ≠ 64 → k ≠ 65 → ¬ (k = kl ∧ i = d) → ¬ (k = kl + 10 ∧ i = d) → up3 (up3 N1 kl d (N kl d + 1)) (kl + 10) d cap k i = N k i := fun k i h1 h2 h3 h4 => (up3_n h4).trans ((up3_n h3).trans (hN1 k i h1 h2))
  have ql : ∀ k i, k = kl → i = d → up3 (up3 N1 kl d (N kl d + 1)) (kl + 10) d cap k i = N kl d + 1 := fun k i e1 e2 => by subst e1; subst e2; exact (up3_n (by omega)).trans up3_s
  have qr : ∀ k i, k = kl + 10 → i = d → up3 (up3 N1 kl d (N kl d + 1)) (kl + 10) d cap k i = cap := fun k i e1 e2 => by subst e1; subst e2; exact up3_s
  refine ⟨?_, ?_, ?_, ?_, fun d2 => ?_, fun k d2 h1 h2 => ?_⟩
  · rw [q 16 0 (by decide) (by decide) (by omega) (by omega)]; exact b1
  · rw [q 26 0 (by decide) (by decide) (by omega) (by omega)]; exact b2
  · rw [q 26 0 (by decide) (by decide) (by omega) (by omega), q 16 0 (by decide) (by decide) (by omega) (by omega)]; exact b3
  · rw [q 26 0 (by decide) (by decide) (by omega) (by omega)]; exact b4
  · have hb := b5 d2
    rw [q 13 d2 (by decide) (by decide) (by omega) (by omega), q 66 d2 (by decide) (by decide) (by omega) (by omega)]
    have one : ∀ k m, (k = 10 ∨ k = 11 ∨ k = 12 ∨ k = 14 ∨ k = 15) → gc_mx k = m → N k d2 ≤ m → up3 (up3 N1 kl d (N kl d + 1)) (kl + 10) d cap k d2 ≤ m := fun k m hk e hm2 => by
      by_cases z : k = kl ∧ d2 = d
      · rw [ql k d2 z.1 z.2]
        obtain ⟨z1, z2⟩ := z
        subst z1
        omega
      · rw [q k d2 (by omega) (by omega) z (by omega)]
        exact hm2
    exact ⟨one 10 40 (by omega) rfl hb.1, one 11 5 (by omega) rfl hb.2.1, one 12 20 (by omega) rfl hb.2.2.1, hb.2.2.2.1, one 14 600 (by omega) rfl hb.2.2.2.2.1, one 15 30 (by omega) rfl hb.2.2.2.2.2.1, hb.2.2.2.2.2.2⟩
  · by_cases z : k = kl ∧ d2 = d
    · rw [ql k d2 z.1 z.2, qr (k + 10) d2 (by omega) z.2]
      omega
    · rw [q k d2 (by omega) (by omega) z (by omega), q (k + 10) d2 (by omega) (by omega) (by omega) (by omega)]
      exact b6 k d2 h1 h2
theorem gc_add (hP : gc_P G L N τ n0 h) (hkl : kl = 10 ∨ kl = 11 ∨ kl = 12 ∨ kl = 14 ∨ kl = 15) (hd : d ≤ N 16 0) (hm : N kl d < gc_mx kl) (hn : n0 ≤ n') (hN1 : ∀ k i, k ≠ 64 → k ≠ 65 → N1 k i = N k i) (h64 : ∀ i, gc_live N 34 i → N1 64 i = N 64 i ∧ N1 65 i = N 65 i)
    {f0 f' : Nat → Option Nat} (hl' : h' (L kl d) = some (ga_O 11 [.int (τ (100 * kl) d + 1), .ref e', .int (nI (N kl d + 1))])) (he' : h' e' = some (ga_R G 3 cap f')) (hf1 : ∀ j, j < N kl d → f' j = f0 j) (hf0 : ∀ j, j < N kl d → f0 j = some (L (kl + 20) (1024 * d + j))) (hf2 : f' (N kl d) = some t) (hc : N kl d < cap) (hc2 : cap ≤ 2000) (hc3 : 10 ≤ cap)
    (hse : (e' = L (kl + 10) d ∧ gc_live N (kl + 10) d) ∨ (n0 ≤ e' ∧ e' < n' ∧ e' ≠ t)) (ho : ∀ b, b < n0 → b ≠ L kl d → b ≠ e' → h' b = h b) (ht : h' t = some x) (htn : n0 ≤ t) (htn' : t < n')
    (hτ : ∀ key j, ¬ (key / 100 = kl + 20 ∧ j = 1024 * d + N kl d) → τ' key j = τ key j)
    (hok : ∀ L2 N2, (∀ j, j < N 66 d → L2 33 (1024 * d + j) = L 33 (1024 * d + j)) → N2 64 (1024 * d + N kl d) = N1 64 (1024 * d + N kl d) → N2 65 (1024 * d + N kl d) = N1 65 (1024 * d + N kl d) → (∀ d, N2 66 d = N 66 d) → gc_ok G L2 N2 (up2 τ' (100 * kl) d (τ (100 * kl) d + 1)) (kl + 20) (1024 * d + N kl d) x) :
    gc_P G (up3 (up3 L (kl + 20) (1024 * d + N kl d) t) (kl + 10) d e') (up3 (up3 N1 kl d (N kl d + 1)) (kl + 10) d cap) (up2 τ' (100 * kl) d (τ (100 * kl) d + 1)) n' h' ∧ gc_G L N (up3 (up3 L (kl + 20) (1024 * d + N kl d) t) (kl + 10) d e') (up3 (up3 N1 kl d (N kl d + 1)) (kl + 10) d cap) n0 := by
  have hmx := gc_mx_P (d := d) hP hkl
  have hdm := gc_dm d (N kl d) (by omega)
  have hlv : ∀ k2 i2, gc_live N k2 i2 → ¬ (k2 = kl + 20 ∧ i2 = 1024 * d + N kl d) := fun k2 i2 hl q => by
    obtain ⟨q1, q2⟩ := q
    subst q1
    have key : ∀ k3, k3 = kl → ¬ (i2 / 1024 ≤ N 16 0 ∧ i2 % 1024 < N k3 (i2 / 1024)) := fun k3 e z => by
      subst e
      have z2 := z.2
      rw [q2, hdm.1, hdm.2] at z2
      omega
    rcases hkl with e | e | e | e | e <;> subst e <;> exact key _ rfl hl
  have hL : ∀ k2 i2, gc_live N k2 i2 → ¬ (k2 = kl + 10 ∧ i2 = d) → up3 (up3 L (kl + 20) (1024 * d + N kl d) t) (kl + 10) d e' k2 i2 = L k2 i2 := fun k2 i2 hl c => (up3_n c).trans (up3_n (hlv k2 i2 hl))
  have hNl : up3 (up3 N1 kl d (N kl d + 1)) (kl + 10) d cap kl d = N kl d + 1 := (up3_n (by omega)).trans up3_s
  have hNr : up3 (up3 N1 kl d (N kl d + 1)) (kl + 10) d cap (kl + 10) d = cap := up3_s
  have hNo : ∀ k2 i2, ¬ (k2 = kl ∧ i2 = d) → ¬ (k2 = kl + 10 ∧ i2 = d) → up3 (up3 N1 kl d (N kl d + 1)) (kl + 10) d cap k2 i2 = N1 k2 i2 := fun k2 i2 h3 h4 => (up3_n h4).trans (up3_n h3)
  refine gc_P.addG (kl := kl) (il := d) (a := t) (e' := e') (x := x) (by omega) hP hd hn (hP.1.add hkl hm hc hc2 hc3 hN1) (fun k2 i2 h3 h4 h5 h6 => (hNo k2 i2 h5 h6).trans (hN1 k2 i2 h3 h4)) hNl (fun i2 hl => ?_) hL ((up3_n (by omega)).trans up3_s) up3_s (fun k i h3 h4 h5 key j e1 e2 => ?_) ht ?_ hl' ?_ he' ?_ htn htn' hse ho
  · rw [hNo 64 i2 (by omega) (by omega), hNo 65 i2 (by omega) (by omega)]; exact h64 i2 hl
  · have z1 : ¬ (key = 100 * kl ∧ j = d) := fun z => by
      obtain ⟨z1, z2⟩ := z
      subst z1; subst z2
      have : k = kl := by omega
      subst this
      refine h3 ⟨rfl, e2.symm.trans ?_⟩
      rcases hkl with e | e | e | e | e <;> subst e <;> rfl
    have z2 : up2 τ' (100 * kl) d (τ (100 * kl) d + 1) key j = τ' key j := by
      by_cases zk : key = 100 * kl
      · subst zk
        rw [up2_at, if_neg (fun z => z1 ⟨rfl, z⟩)]
      · rw [up2_n zk]
    rw [z2]
    refine hτ key j (fun z => h5 ⟨e1.symm.trans z.1, ?_⟩)
    rw [← z.2, ← e2]
    have : k = kl + 20 := e1.symm.trans z.1
    subst this
    rcases hkl with e | e | e | e | e <;> subst e <;> rfl
  · refine hok _ _ (fun j hj => ?_) (hNo 64 _ (by omega) (by omega)) (hNo 65 _ (by omega) (by omega)) (fun d2 => (hNo 66 d2 (by omega) (by omega)).trans (hN1 66 d2 (by decide) (by decide)))
    exact (up3_n (by omega)).trans (up3_n (by omega))
  · have e1 : gc_e G (up3 (up3 L (kl + 20) (1024 * d + N kl d) t) (kl + 10) d e') (up3 (up3 N1 kl d (N kl d + 1)) (kl + 10) d cap) kl d = e' := by
      unfold gc_e
      rw [hNr, if_neg (by omega), up3_s]
    have e2 : up2 τ' (100 * kl) d (τ (100 * kl) d + 1) (100 * kl) d = τ (100 * kl) d + 1 := up2_ss
    have key : ga_O 11 [.int (τ (100 * kl) d + 1), .ref e', .int (nI (N kl d + 1))] = ga_O 11 [.int (up2 τ' (100 * kl) d (τ (100 * kl) d + 1) (100 * kl) d), .ref (gc_e G (up3 (up3 L (kl + 20) (1024 * d + N kl d) t) (kl + 10) d e') (up3 (up3 N1 kl d (N kl d + 1)) (kl + 10) d cap) kl d), .int (nI (up3 (up3 N1 kl d (N kl d + 1)) (kl + 10) d cap kl d))] := by rw [e1, e2, hNl]
    rcases hkl with e | e | e | e | e <;> subst e <;> exact key
  · have key : ∃ f : Nat → Option Nat, ga_R G 3 cap f' = ga_R G 3 (up3 (up3 N1 kl d (N kl d + 1)) (kl + 10) d cap (kl + 10) d) f ∧ ∀ j, j < up3 (up3 N1 kl d (N kl d + 1)) (kl + 10) d cap kl d → f j = some (up3 (up3 L (kl + 20) (1024 * d + N kl d) t) (kl + 10) d e' (kl + 20) (1024 * d + j)) := by
      refine ⟨f', by rw [hNr], fun j hj => ?_⟩
      rw [hNl] at hj
      rw [up3_n (show ¬ (kl + 20 = kl + 10 ∧ 1024 * d + j = d) by omega)]
      by_cases z : j = N kl d
      · subst z; rw [up3_s]; exact hf2
      · rw [up3_n (by omega), hf1 j (by omega)]; exact hf0 j (by omega)
    rcases hkl with e | e | e | e | e <;> subst e <;> exact key
end GAA
