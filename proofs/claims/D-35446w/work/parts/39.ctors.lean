set_option maxRecDepth 100000
theorem up2_ne {τ : gm_S} {k i a b : Nat} {v : Int32} (h : ¬ (a = k ∧ b = i)) : up2 τ k i v a b = τ a b := by
  by_cases e : a = k
  · subst e
    rw [up2_at, if_neg (fun z => h ⟨rfl, z⟩)]
  · rw [up2_n e]
theorem z_nar {b : Int32} (hb : b = 0 ∨ b = 1) : narrow .boolean (.int b) = .int b := by rcases hb with rfl | rfl <;> rfl
theorem z_fit {b : Int32} (hb : b = 0 ∨ b = 1) : fits .boolean (.int b) = true := by rcases hb with rfl | rfl <;> rfl
set_option maxHeartbeats 4000000 in
theorem ci_X4 (l : Launch) (hl : l.stackTraces = false) (G : ga_X) (a : Nat) (f : Int32) (z : Int32) (y : Int32) (b : Int32) (p : Int32) (u : Int32) (h : ga_H) (n : Nat) (ha : h a = some (ga_O 3 [.int 0, .int 0, .int 0, .int 0, .int 0, .int 0, .int 0])) (hA : G.2.1 ≤ a) (hb : b = 0 ∨ b = 1) : ga_C l G yX4_init cX4_init 7 none ({ frames := 1, cells := 0, slots := 0, locals := 20 } : Room) [.ref a, .int f, .int z, .int y, .int b, .int p, .int u] h n (fun v' h' n' => v' = none ∧ h' = ga_up h a (ga_O 3 [.int f, .int z, .int y, .int b, .int p, .int u, .int 0]) ∧ n' = n) ga_no := by
  refine ga_start hl rfl (Nat.le_of_ble_eq_true rfl) (fun Γ e X Y hnm hxt => ?_)
  subst e
  have X : ga_E Γ G RX4 cX4_init 7 := X
  show ga Γ G h n 0 0 0 [(0, .ref a), (1, .int f), (2, .int z), (3, .int y), (4, .int b), (5, .int p), (6, .int u)] []
  refine ga_aload_n X 0 dX4_init_0 rfl rfl ?_
  refine ga_objInit X Y q407 q98 q99 (Nat.le_of_ble_eq_true rfl) (by first | decide | omega | (dsimp only; omega)) (by first | decide | omega | (dsimp only; omega)) dX4_init_1 ?_
  refine ga_aload_n X 0 dX4_init_4 rfl rfl ?_
  refine ga_iload_n X 1 dX4_init_5 rfl rfl ?_
  refine ga_putFE X in_X4 tyX4 tyX4_ok nmX4 (ci := 3) rfl 0 (by decide) q408 rfl hnm rfl ha hA rfl rfl (Nat.le_of_ble_eq_true rfl) (fs' := [.int f, .int 0, .int 0, .int 0, .int 0, .int 0, .int 0]) rfl dX4_init_6 ?_
  refine ga_aload_n X 0 dX4_init_9 rfl rfl ?_
  refine ga_iload_n X 2 dX4_init_10 rfl rfl ?_
  refine ga_putFE X in_X4 tyX4 tyX4_ok nmX4 (ci := 3) rfl 1 (by decide) q411 rfl hnm rfl ga_up_s hA rfl rfl (Nat.le_of_ble_eq_true rfl) (fs' := [.int f, .int z, .int 0, .int 0, .int 0, .int 0, .int 0]) rfl dX4_init_11 ?_
  refine ga_aload_n X 0 dX4_init_14 rfl rfl ?_
  refine ga_iload_n X 3 dX4_init_15 rfl rfl ?_
  refine ga_putFE X in_X4 tyX4 tyX4_ok nmX4 (ci := 3) rfl 2 (by decide) q414 rfl hnm rfl ga_up_s hA rfl rfl (Nat.le_of_ble_eq_true rfl) (fs' := [.int f, .int z, .int y, .int 0, .int 0, .int 0, .int 0]) rfl dX4_init_16 ?_
  refine ga_aload_n X 0 dX4_init_19 rfl rfl ?_
  refine ga_iload X 4 dX4_init_20 rfl ?_
  refine ga_putFE X in_X4 tyX4 tyX4_ok nmX4 (ci := 3) rfl 3 (by decide) q417 rfl hnm rfl ga_up_s hA (z_nar hb) (z_fit hb) (Nat.le_of_ble_eq_true rfl) (fs' := [.int f, .int z, .int y, .int b, .int 0, .int 0, .int 0]) rfl dX4_init_22 ?_
  refine ga_aload_n X 0 dX4_init_25 rfl rfl ?_
  refine ga_iload X 5 dX4_init_26 rfl ?_
  refine ga_putFE X in_X4 tyX4 tyX4_ok nmX4 (ci := 3) rfl 4 (by decide) q421 rfl hnm rfl ga_up_s hA rfl rfl (Nat.le_of_ble_eq_true rfl) (fs' := [.int f, .int z, .int y, .int b, .int p, .int 0, .int 0]) rfl dX4_init_28 ?_
  refine ga_aload_n X 0 dX4_init_31 rfl rfl ?_
  refine ga_iload X 6 dX4_init_32 rfl ?_
  refine ga_putFE X in_X4 tyX4 tyX4_ok nmX4 (ci := 3) rfl 5 (by decide) q424 rfl hnm rfl ga_up_s hA rfl rfl (Nat.le_of_ble_eq_true rfl) (fs' := [.int f, .int z, .int y, .int b, .int p, .int u, .int 0]) rfl dX4_init_34 ?_
  exact ga_vret X Y dX4_init_37 (by first | decide | omega | (dsimp only; omega)) (by first | decide | omega | (dsimp only; omega)) ⟨rfl, (by simp only [ga_up_up]), rfl⟩
set_option maxHeartbeats 4000000 in
theorem ci_X5 (l : Launch) (hl : l.stackTraces = false) (G : ga_X) (a : Nat) (f : Int32) (z : Int32) (y : Int32) (b : Int32) (p : Int32) (u : Int32) (h : ga_H) (n : Nat) (ha : h a = some (ga_O 4 [.int 0, .int 0, .int 0, .int 0, .int 0, .int 0, .int 0, .int 0, .int 0])) (hA : G.2.1 ≤ a) (hb : b = 0 ∨ b = 1) : ga_C l G yX5_init cX5_init 7 none ({ frames := 1, cells := 0, slots := 0, locals := 20 } : Room) [.ref a, .int f, .int z, .int y, .int b, .int p, .int u] h n (fun v' h' n' => v' = none ∧ h' = ga_up h a (ga_O 4 [.int f, .int z, .int y, .int b, .int p, .int u, .int (-1), .int (-1), .int 0]) ∧ n' = n) ga_no := by
  refine ga_start hl rfl (Nat.le_of_ble_eq_true rfl) (fun Γ e X Y hnm hxt => ?_)
  subst e
  have X : ga_E Γ G RX5 cX5_init 7 := X
  show ga Γ G h n 0 0 0 [(0, .ref a), (1, .int f), (2, .int z), (3, .int y), (4, .int b), (5, .int p), (6, .int u)] []
  refine ga_aload_n X 0 dX5_init_0 rfl rfl ?_
  refine ga_objInit X Y q529 q98 q99 (Nat.le_of_ble_eq_true rfl) (by first | decide | omega | (dsimp only; omega)) (by first | decide | omega | (dsimp only; omega)) dX5_init_1 ?_
  refine ga_aload_n X 0 dX5_init_4 rfl rfl ?_
  refine ga_iconst X (v := (-1)) dX5_init_5 (by decide) ?_
  refine ga_putE X in_X5 tyX5 tyX5_ok nmX5 (ci := 4) rfl 6 (by decide) q544 rfl rfl ha hA rfl rfl (Nat.le_of_ble_eq_true rfl) (fs' := [.int 0, .int 0, .int 0, .int 0, .int 0, .int 0, .int (-1), .int 0, .int 0]) rfl dX5_init_6 ?_
  refine ga_aload_n X 0 dX5_init_9 rfl rfl ?_
  refine ga_iconst X (v := (-1)) dX5_init_10 (by decide) ?_
  refine ga_putE X in_X5 tyX5 tyX5_ok nmX5 (ci := 4) rfl 7 (by decide) q546 rfl rfl ga_up_s hA rfl rfl (Nat.le_of_ble_eq_true rfl) (fs' := [.int 0, .int 0, .int 0, .int 0, .int 0, .int 0, .int (-1), .int (-1), .int 0]) rfl dX5_init_11 ?_
  refine ga_aload_n X 0 dX5_init_14 rfl rfl ?_
  refine ga_iload_n X 1 dX5_init_15 rfl rfl ?_
  refine ga_putFE X in_X5 tyX5 tyX5_ok nmX5 (ci := 4) rfl 0 (by decide) q530 rfl hnm rfl ga_up_s hA rfl rfl (Nat.le_of_ble_eq_true rfl) (fs' := [.int f, .int 0, .int 0, .int 0, .int 0, .int 0, .int (-1), .int (-1), .int 0]) rfl dX5_init_16 ?_
  refine ga_aload_n X 0 dX5_init_19 rfl rfl ?_
  refine ga_iload_n X 2 dX5_init_20 rfl rfl ?_
  refine ga_putFE X in_X5 tyX5 tyX5_ok nmX5 (ci := 4) rfl 1 (by decide) q533 rfl hnm rfl ga_up_s hA rfl rfl (Nat.le_of_ble_eq_true rfl) (fs' := [.int f, .int z, .int 0, .int 0, .int 0, .int 0, .int (-1), .int (-1), .int 0]) rfl dX5_init_21 ?_
  refine ga_aload_n X 0 dX5_init_24 rfl rfl ?_
  refine ga_iload_n X 3 dX5_init_25 rfl rfl ?_
  refine ga_putFE X in_X5 tyX5 tyX5_ok nmX5 (ci := 4) rfl 2 (by decide) q536 rfl hnm rfl ga_up_s hA rfl rfl (Nat.le_of_ble_eq_true rfl) (fs' := [.int f, .int z, .int y, .int 0, .int 0, .int 0, .int (-1), .int (-1), .int 0]) rfl dX5_init_26 ?_
  refine ga_aload_n X 0 dX5_init_29 rfl rfl ?_
  refine ga_iload X 4 dX5_init_30 rfl ?_
  refine ga_putFE X in_X5 tyX5 tyX5_ok nmX5 (ci := 4) rfl 3 (by decide) q537 rfl hnm rfl ga_up_s hA (z_nar hb) (z_fit hb) (Nat.le_of_ble_eq_true rfl) (fs' := [.int f, .int z, .int y, .int b, .int 0, .int 0, .int (-1), .int (-1), .int 0]) rfl dX5_init_32 ?_
  refine ga_aload_n X 0 dX5_init_35 rfl rfl ?_
  refine ga_iload X 5 dX5_init_36 rfl ?_
  refine ga_putFE X in_X5 tyX5 tyX5_ok nmX5 (ci := 4) rfl 4 (by decide) q540 rfl hnm rfl ga_up_s hA rfl rfl (Nat.le_of_ble_eq_true rfl) (fs' := [.int f, .int z, .int y, .int b, .int p, .int 0, .int (-1), .int (-1), .int 0]) rfl dX5_init_38 ?_
  refine ga_aload_n X 0 dX5_init_41 rfl rfl ?_
  refine ga_iload X 6 dX5_init_42 rfl ?_
  refine ga_putFE X in_X5 tyX5 tyX5_ok nmX5 (ci := 4) rfl 5 (by decide) q541 rfl hnm rfl ga_up_s hA rfl rfl (Nat.le_of_ble_eq_true rfl) (fs' := [.int f, .int z, .int y, .int b, .int p, .int u, .int (-1), .int (-1), .int 0]) rfl dX5_init_44 ?_
  exact ga_vret X Y dX5_init_47 (by first | decide | omega | (dsimp only; omega)) (by first | decide | omega | (dsimp only; omega)) ⟨rfl, (by simp only [ga_up_up]), rfl⟩
set_option maxHeartbeats 4000000 in
theorem ci_X6 (l : Launch) (hl : l.stackTraces = false) (G : ga_X) (a : Nat) (f : Int32) (z : Int32) (y : Int32) (u : Int32) (p : Int32) (h : ga_H) (n : Nat) (ha : h a = some (ga_O 5 [.int 0, .int 0, .int 0, .int 0, .int 0, .int 0, .int 0])) (hA : G.2.1 ≤ a) : ga_C l G yX6_init cX6_init 6 none ({ frames := 1, cells := 0, slots := 0, locals := 20 } : Room) [.ref a, .int f, .int z, .int y, .int u, .int p] h n (fun v' h' n' => v' = none ∧ h' = ga_up h a (ga_O 5 [.int f, .int z, .int y, .int u, .int p, .int 0, .int 0]) ∧ n' = n) ga_no := by
  refine ga_start hl rfl (Nat.le_of_ble_eq_true rfl) (fun Γ e X Y hnm hxt => ?_)
  subst e
  have X : ga_E Γ G RX6 cX6_init 6 := X
  show ga Γ G h n 0 0 0 [(0, .ref a), (1, .int f), (2, .int z), (3, .int y), (4, .int u), (5, .int p)] []
  refine ga_aload_n X 0 dX6_init_0 rfl rfl ?_
  refine ga_objInit X Y q607 q98 q99 (Nat.le_of_ble_eq_true rfl) (by first | decide | omega | (dsimp only; omega)) (by first | decide | omega | (dsimp only; omega)) dX6_init_1 ?_
  refine ga_aload_n X 0 dX6_init_4 rfl rfl ?_
  refine ga_iload_n X 1 dX6_init_5 rfl rfl ?_
  refine ga_putFE X in_X6 tyX6 tyX6_ok nmX6 (ci := 5) rfl 0 (by decide) q608 rfl hnm rfl ha hA rfl rfl (Nat.le_of_ble_eq_true rfl) (fs' := [.int f, .int 0, .int 0, .int 0, .int 0, .int 0, .int 0]) rfl dX6_init_6 ?_
  refine ga_aload_n X 0 dX6_init_9 rfl rfl ?_
  refine ga_iload_n X 2 dX6_init_10 rfl rfl ?_
  refine ga_putFE X in_X6 tyX6 tyX6_ok nmX6 (ci := 5) rfl 1 (by decide) q610 rfl hnm rfl ga_up_s hA rfl rfl (Nat.le_of_ble_eq_true rfl) (fs' := [.int f, .int z, .int 0, .int 0, .int 0, .int 0, .int 0]) rfl dX6_init_11 ?_
  refine ga_aload_n X 0 dX6_init_14 rfl rfl ?_
  refine ga_iload_n X 3 dX6_init_15 rfl rfl ?_
  refine ga_putFE X in_X6 tyX6 tyX6_ok nmX6 (ci := 5) rfl 2 (by decide) q612 rfl hnm rfl ga_up_s hA rfl rfl (Nat.le_of_ble_eq_true rfl) (fs' := [.int f, .int z, .int y, .int 0, .int 0, .int 0, .int 0]) rfl dX6_init_16 ?_
  refine ga_aload_n X 0 dX6_init_19 rfl rfl ?_
  refine ga_iload X 4 dX6_init_20 rfl ?_
  refine ga_putFE X in_X6 tyX6 tyX6_ok nmX6 (ci := 5) rfl 3 (by decide) q614 rfl hnm rfl ga_up_s hA rfl rfl (Nat.le_of_ble_eq_true rfl) (fs' := [.int f, .int z, .int y, .int u, .int 0, .int 0, .int 0]) rfl dX6_init_22 ?_
  refine ga_aload_n X 0 dX6_init_25 rfl rfl ?_
  refine ga_iload X 5 dX6_init_26 rfl ?_
  refine ga_putFE X in_X6 tyX6 tyX6_ok nmX6 (ci := 5) rfl 4 (by decide) q616 rfl hnm rfl ga_up_s hA rfl rfl (Nat.le_of_ble_eq_true rfl) (fs' := [.int f, .int z, .int y, .int u, .int p, .int 0, .int 0]) rfl dX6_init_28 ?_
  exact ga_vret X Y dX6_init_31 (by first | decide | omega | (dsimp only; omega)) (by first | decide | omega | (dsimp only; omega)) ⟨rfl, (by simp only [ga_up_up]), rfl⟩
set_option maxHeartbeats 4000000 in
theorem ci_X10 (l : Launch) (hl : l.stackTraces = false) (G : ga_X) (a : Nat) (f : Int32) (z : Int32) (y : Int32) (b : Int32) (p : Int32) (u : Int32) (h : ga_H) (n : Nat) (ha : h a = some (ga_O 8 [.int 0, .int 0, .int 0, .int 0, .int 0, .int 0])) (hA : G.2.1 ≤ a) (hb : b = 0 ∨ b = 1) : ga_C l G yX10_init cX10_init 7 none ({ frames := 1, cells := 0, slots := 0, locals := 20 } : Room) [.ref a, .int f, .int z, .int y, .int b, .int p, .int u] h n (fun v' h' n' => v' = none ∧ h' = ga_up h a (ga_O 8 [.int f, .int z, .int y, .int b, .int p, .int u]) ∧ n' = n) ga_no := by
  refine ga_start hl rfl (Nat.le_of_ble_eq_true rfl) (fun Γ e X Y hnm hxt => ?_)
  subst e
  have X : ga_E Γ G RX10 cX10_init 7 := X
  show ga Γ G h n 0 0 0 [(0, .ref a), (1, .int f), (2, .int z), (3, .int y), (4, .int b), (5, .int p), (6, .int u)] []
  refine ga_aload_n X 0 dX10_init_0 rfl rfl ?_
  refine ga_objInit X Y q1140 q98 q99 (Nat.le_of_ble_eq_true rfl) (by first | decide | omega | (dsimp only; omega)) (by first | decide | omega | (dsimp only; omega)) dX10_init_1 ?_
  refine ga_aload_n X 0 dX10_init_4 rfl rfl ?_
  refine ga_iload_n X 1 dX10_init_5 rfl rfl ?_
  refine ga_putFE X in_X10 tyX10 tyX10_ok nmX10 (ci := 8) rfl 0 (by decide) q1141 rfl hnm rfl ha hA rfl rfl (Nat.le_of_ble_eq_true rfl) (fs' := [.int f, .int 0, .int 0, .int 0, .int 0, .int 0]) rfl dX10_init_6 ?_
  refine ga_aload_n X 0 dX10_init_9 rfl rfl ?_
  refine ga_iload_n X 2 dX10_init_10 rfl rfl ?_
  refine ga_putFE X in_X10 tyX10 tyX10_ok nmX10 (ci := 8) rfl 1 (by decide) q1144 rfl hnm rfl ga_up_s hA rfl rfl (Nat.le_of_ble_eq_true rfl) (fs' := [.int f, .int z, .int 0, .int 0, .int 0, .int 0]) rfl dX10_init_11 ?_
  refine ga_aload_n X 0 dX10_init_14 rfl rfl ?_
  refine ga_iload_n X 3 dX10_init_15 rfl rfl ?_
  refine ga_putFE X in_X10 tyX10 tyX10_ok nmX10 (ci := 8) rfl 2 (by decide) q1147 rfl hnm rfl ga_up_s hA rfl rfl (Nat.le_of_ble_eq_true rfl) (fs' := [.int f, .int z, .int y, .int 0, .int 0, .int 0]) rfl dX10_init_16 ?_
  refine ga_aload_n X 0 dX10_init_19 rfl rfl ?_
  refine ga_iload X 4 dX10_init_20 rfl ?_
  refine ga_putFE X in_X10 tyX10 tyX10_ok nmX10 (ci := 8) rfl 3 (by decide) q1150 rfl hnm rfl ga_up_s hA (z_nar hb) (z_fit hb) (Nat.le_of_ble_eq_true rfl) (fs' := [.int f, .int z, .int y, .int b, .int 0, .int 0]) rfl dX10_init_22 ?_
  refine ga_aload_n X 0 dX10_init_25 rfl rfl ?_
  refine ga_iload X 5 dX10_init_26 rfl ?_
  refine ga_putFE X in_X10 tyX10 tyX10_ok nmX10 (ci := 8) rfl 4 (by decide) q1152 rfl hnm rfl ga_up_s hA rfl rfl (Nat.le_of_ble_eq_true rfl) (fs' := [.int f, .int z, .int y, .int b, .int p, .int 0]) rfl dX10_init_28 ?_
  refine ga_aload_n X 0 dX10_init_31 rfl rfl ?_
  refine ga_iload X 6 dX10_init_32 rfl ?_
  refine ga_putE X in_X10 tyX10 tyX10_ok nmX10 (ci := 8) rfl 5 (by decide) q1154 rfl rfl ga_up_s hA rfl rfl (Nat.le_of_ble_eq_true rfl) (fs' := [.int f, .int z, .int y, .int b, .int p, .int u]) rfl dX10_init_34 ?_
  exact ga_vret X Y dX10_init_37 (by first | decide | omega | (dsimp only; omega)) (by first | decide | omega | (dsimp only; omega)) ⟨rfl, (by simp only [ga_up_up]), rfl⟩
set_option maxHeartbeats 4000000 in
theorem ci_X12 (l : Launch) (hl : l.stackTraces = false) (G : ga_X) (a : Nat) (x : Nat) (y : Nat) (p : Int32) (u : Int32) (h : ga_H) (n : Nat) (ha : h a = some (ga_O 9 [.null, .null, .int 0, .int 0])) (hA : G.2.1 ≤ a) : ga_C l G yX12_init cX12_init 5 none ({ frames := 1, cells := 0, slots := 0, locals := 20 } : Room) [.ref a, .ref x, .ref y, .int p, .int u] h n (fun v' h' n' => v' = none ∧ h' = ga_up h a (ga_O 9 [.ref x, .ref y, .int p, .int u]) ∧ n' = n) ga_no := by
  refine ga_start hl rfl (Nat.le_of_ble_eq_true rfl) (fun Γ e X Y hnm hxt => ?_)
  subst e
  have X : ga_E Γ G RX12 cX12_init 5 := X
  show ga Γ G h n 0 0 0 [(0, .ref a), (1, .ref x), (2, .ref y), (3, .int p), (4, .int u)] []
  refine ga_aload_n X 0 dX12_init_0 rfl rfl ?_
  refine ga_objInit X Y q1206 q98 q99 (Nat.le_of_ble_eq_true rfl) (by first | decide | omega | (dsimp only; omega)) (by first | decide | omega | (dsimp only; omega)) dX12_init_1 ?_
  refine ga_aload_n X 0 dX12_init_4 rfl rfl ?_
  refine ga_aload_n X 1 dX12_init_5 rfl rfl ?_
  refine ga_putFE X in_X12 tyX12 tyX12_ok nmX12 (ci := 9) rfl 0 (by decide) q1207 rfl hnm rfl ha hA rfl rfl (Nat.le_of_ble_eq_true rfl) (fs' := [.ref x, .null, .int 0, .int 0]) rfl dX12_init_6 ?_
  refine ga_aload_n X 0 dX12_init_9 rfl rfl ?_
  refine ga_aload_n X 2 dX12_init_10 rfl rfl ?_
  refine ga_putFE X in_X12 tyX12 tyX12_ok nmX12 (ci := 9) rfl 1 (by decide) q1210 rfl hnm rfl ga_up_s hA rfl rfl (Nat.le_of_ble_eq_true rfl) (fs' := [.ref x, .ref y, .int 0, .int 0]) rfl dX12_init_11 ?_
  refine ga_aload_n X 0 dX12_init_14 rfl rfl ?_
  refine ga_iload_n X 3 dX12_init_15 rfl rfl ?_
  refine ga_putFE X in_X12 tyX12 tyX12_ok nmX12 (ci := 9) rfl 2 (by decide) q1213 rfl hnm rfl ga_up_s hA rfl rfl (Nat.le_of_ble_eq_true rfl) (fs' := [.ref x, .ref y, .int p, .int 0]) rfl dX12_init_16 ?_
  refine ga_aload_n X 0 dX12_init_19 rfl rfl ?_
  refine ga_iload X 4 dX12_init_20 rfl ?_
  refine ga_putFE X in_X12 tyX12 tyX12_ok nmX12 (ci := 9) rfl 3 (by decide) q1215 rfl hnm rfl ga_up_s hA rfl rfl (Nat.le_of_ble_eq_true rfl) (fs' := [.ref x, .ref y, .int p, .int u]) rfl dX12_init_22 ?_
  exact ga_vret X Y dX12_init_25 (by first | decide | omega | (dsimp only; omega)) (by first | decide | omega | (dsimp only; omega)) ⟨rfl, (by simp only [ga_up_up]), rfl⟩
set_option maxHeartbeats 4000000 in
theorem ci_X13 (l : Launch) (hl : l.stackTraces = false) (G : ga_X) (a : Nat) (f : Int32) (y : Int32) (b : Int32) (p : Int32) (u : Int32) (h : ga_H) (n : Nat) (ha : h a = some (ga_O 10 [.int 0, .int 0, .int 0, .int 0, .int 0])) (hA : G.2.1 ≤ a) (hb : b = 0 ∨ b = 1) : ga_C l G yX13_init cX13_init 6 none ({ frames := 1, cells := 0, slots := 0, locals := 20 } : Room) [.ref a, .int f, .int y, .int b, .int p, .int u] h n (fun v' h' n' => v' = none ∧ h' = ga_up h a (ga_O 10 [.int f, .int y, .int b, .int p, .int u]) ∧ n' = n) ga_no := by
  refine ga_start hl rfl (Nat.le_of_ble_eq_true rfl) (fun Γ e X Y hnm hxt => ?_)
  subst e
  have X : ga_E Γ G RX13 cX13_init 6 := X
  show ga Γ G h n 0 0 0 [(0, .ref a), (1, .int f), (2, .int y), (3, .int b), (4, .int p), (5, .int u)] []
  refine ga_aload_n X 0 dX13_init_0 rfl rfl ?_
  refine ga_objInit X Y q1246 q98 q99 (Nat.le_of_ble_eq_true rfl) (by first | decide | omega | (dsimp only; omega)) (by first | decide | omega | (dsimp only; omega)) dX13_init_1 ?_
  refine ga_aload_n X 0 dX13_init_4 rfl rfl ?_
  refine ga_iload_n X 1 dX13_init_5 rfl rfl ?_
  refine ga_putFE X in_X13 tyX13 tyX13_ok nmX13 (ci := 10) rfl 0 (by decide) q1247 rfl hnm rfl ha hA rfl rfl (Nat.le_of_ble_eq_true rfl) (fs' := [.int f, .int 0, .int 0, .int 0, .int 0]) rfl dX13_init_6 ?_
  refine ga_aload_n X 0 dX13_init_9 rfl rfl ?_
  refine ga_iload_n X 2 dX13_init_10 rfl rfl ?_
  refine ga_putFE X in_X13 tyX13 tyX13_ok nmX13 (ci := 10) rfl 1 (by decide) q1249 rfl hnm rfl ga_up_s hA rfl rfl (Nat.le_of_ble_eq_true rfl) (fs' := [.int f, .int y, .int 0, .int 0, .int 0]) rfl dX13_init_11 ?_
  refine ga_aload_n X 0 dX13_init_14 rfl rfl ?_
  refine ga_iload_n X 3 dX13_init_15 rfl rfl ?_
  refine ga_putFE X in_X13 tyX13 tyX13_ok nmX13 (ci := 10) rfl 2 (by decide) q1251 rfl hnm rfl ga_up_s hA (z_nar hb) (z_fit hb) (Nat.le_of_ble_eq_true rfl) (fs' := [.int f, .int y, .int b, .int 0, .int 0]) rfl dX13_init_16 ?_
  refine ga_aload_n X 0 dX13_init_19 rfl rfl ?_
  refine ga_iload X 4 dX13_init_20 rfl ?_
  refine ga_putFE X in_X13 tyX13 tyX13_ok nmX13 (ci := 10) rfl 3 (by decide) q1253 rfl hnm rfl ga_up_s hA rfl rfl (Nat.le_of_ble_eq_true rfl) (fs' := [.int f, .int y, .int b, .int p, .int 0]) rfl dX13_init_22 ?_
  refine ga_aload_n X 0 dX13_init_25 rfl rfl ?_
  refine ga_iload X 5 dX13_init_26 rfl ?_
  refine ga_putFE X in_X13 tyX13 tyX13_ok nmX13 (ci := 10) rfl 4 (by decide) q1255 rfl hnm rfl ga_up_s hA rfl rfl (Nat.le_of_ble_eq_true rfl) (fs' := [.int f, .int y, .int b, .int p, .int u]) rfl dX13_init_28 ?_
  exact ga_vret X Y dX13_init_31 (by first | decide | omega | (dsimp only; omega)) (by first | decide | omega | (dsimp only; omega)) ⟨rfl, (by simp only [ga_up_up]), rfl⟩
