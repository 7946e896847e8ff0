/-! place, check, allow -/
set_option maxRecDepth 100000
theorem ca_place : ((vx_atS RX1 256 "java/lang/IndexOutOfBoundsException" ["java/lang/RuntimeException", "java/lang/Exception"]).all fun w => decide (w ∈ lw_tbl) && (goodWord w || ga_nwP w)) = true := by decide +kernel
set_option maxHeartbeats 4000000 in
theorem cm_place (l : Launch) (hl : l.stackTraces = false) (G : ga_X) (p : Prop) [Decidable p] (h : ga_H) (n : Nat) : ga_C l G yX1_place cX1_place 1 none ({ frames := 8, cells := 1, slots := 6, locals := 100 } : Room) [.int (bI p)] h n (fun v' h' n' => p ∧ v' = none ∧ h' = h ∧ n' = n) (fun E h' n' => ¬ p ∧ E = "java/lang/IndexOutOfBoundsException" ∧ h' = h ∧ n ≤ n') := by
  refine ga_start hl (by decide) (Nat.le_of_ble_eq_true rfl) (fun Γ e X Y hnm hxt => ?_)
  subst e
  have X : ga_E Γ G RX1 cX1_place 1 := X
  show ga Γ G h n 0 0 0 [(0, .int (bI p))] []
  refine ga_iload_n X 0 dX1_place_0 rfl rfl ?_
  refine ga_ifb_ne X (tgt := 14) dX1_place_1 (by decide) (fun c => ?_) (fun c => ?_)
  · exact ga_widen (k2 := 1) (n2 := 6) (by decide) (by decide) (ga_vret X Y dX1_place_14 (by decide) (by decide) ⟨c, rfl, rfl, rfl⟩)
  · exact ga_throwS X Y (text := "not there") (by decide) (by decide) q329 q64 (by decide) (ga_atS ca_place) (ga_otS (by decide +kernel)) dX1_place_4 dX1_place_7 dX1_place_8 dX1_place_10 dX1_place_13 (fun x hx => (hxt x hx).elim) (by decide) (by decide) (by decide) (by decide) (fun n' hn' => ⟨c, rfl, rfl, hn'⟩)
theorem ca_check : ((vx_atS RX1 263 "java/lang/IllegalArgumentException" ["java/lang/RuntimeException", "java/lang/Exception"]).all fun w => decide (w ∈ lw_tbl) && (goodWord w || ga_nwP w)) = true := by decide +kernel
set_option maxHeartbeats 4000000 in
theorem cm_check (l : Launch) (hl : l.stackTraces = false) (G : ga_X) (p : Prop) [Decidable p] (h : ga_H) (n : Nat) : ga_C l G yX1_check cX1_check 1 none ({ frames := 8, cells := 1, slots := 6, locals := 100 } : Room) [.int (bI p)] h n (fun v' h' n' => p ∧ v' = none ∧ h' = h ∧ n' = n) (fun E h' n' => ¬ p ∧ E = "java/lang/IllegalArgumentException" ∧ h' = h ∧ n ≤ n') := by
  refine ga_start hl (by decide) (Nat.le_of_ble_eq_true rfl) (fun Γ e X Y hnm hxt => ?_)
  subst e
  have X : ga_E Γ G RX1 cX1_check 1 := X
  show ga Γ G h n 0 0 0 [(0, .int (bI p))] []
  refine ga_iload_n X 0 dX1_check_0 rfl rfl ?_
  refine ga_ifb_ne X (tgt := 15) dX1_check_1 (by decide) (fun c => ?_) (fun c => ?_)
  · exact ga_widen (k2 := 1) (n2 := 6) (by decide) (by decide) (ga_vret X Y dX1_check_15 (by decide) (by decide) ⟨c, rfl, rfl, rfl⟩)
  · exact ga_throwSW X Y (text := "out of range") (by decide) (by decide) q346 q67 (by decide) (ga_atS ca_check) (ga_otS (by decide +kernel)) dX1_check_4 dX1_check_7 dX1_check_8 dX1_check_11 dX1_check_14 (fun x hx => (hxt x hx).elim) (by decide) (by decide) (by decide) (by decide) (fun n' hn' => ⟨c, rfl, rfl, hn'⟩)
theorem ca_allow : ((vx_atS RX1 266 "java/lang/IllegalStateException" ["java/lang/RuntimeException", "java/lang/Exception"]).all fun w => decide (w ∈ lw_tbl) && (goodWord w || ga_nwP w)) = true := by decide +kernel
set_option maxHeartbeats 4000000 in
theorem cm_allow (l : Launch) (hl : l.stackTraces = false) (G : ga_X) (p : Prop) [Decidable p] (h : ga_H) (n : Nat) : ga_C l G yX1_allow cX1_allow 1 none ({ frames := 8, cells := 1, slots := 6, locals := 100 } : Room) [.int (bI p)] h n (fun v' h' n' => p ∧ v' = none ∧ h' = h ∧ n' = n) (fun E h' n' => ¬ p ∧ E = "java/lang/IllegalStateException" ∧ h' = h ∧ n ≤ n') := by
  refine ga_start hl (by decide) (Nat.le_of_ble_eq_true rfl) (fun Γ e X Y hnm hxt => ?_)
  subst e
  have X : ga_E Γ G RX1 cX1_allow 1 := X
  show ga Γ G h n 0 0 0 [(0, .int (bI p))] []
  refine ga_iload_n X 0 dX1_allow_0 rfl rfl ?_
  refine ga_ifb_ne X (tgt := 15) dX1_allow_1 (by decide) (fun c => ?_) (fun c => ?_)
  · exact ga_widen (k2 := 1) (n2 := 6) (by decide) (by decide) (ga_vret X Y dX1_allow_15 (by decide) (by decide) ⟨c, rfl, rfl, rfl⟩)
  · exact ga_throwSW X Y (text := "not possible") (by decide) (by decide) q366 q68 (by decide) (ga_atS ca_allow) (ga_otS (by decide +kernel)) dX1_allow_4 dX1_allow_7 dX1_allow_8 dX1_allow_11 dX1_allow_14 (fun x hx => (hxt x hx).elim) (by decide) (by decide) (by decide) (by decide) (fun n' hn' => ⟨c, rfl, rfl, hn'⟩)
