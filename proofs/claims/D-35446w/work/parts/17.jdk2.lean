set_option maxRecDepth 100000
theorem ga_up_3 {h : ga_H} {a b : Nat} {x y z : va_E} (hne : b ≠ a) : ga_up (ga_up (ga_up h a x) b y) a z = ga_up (ga_up h b y) a z := by
  funext q
  unfold ga_up
  by_cases e1 : q = a <;> by_cases e2 : q = b <;> simp [e1, e2]
theorem ga_up_3b {h : ga_H} {a b : Nat} {x y y0 z : va_E} (hne : b ≠ a) : ga_up (ga_up (ga_up (ga_up h a x) b y0) b y) a z = ga_up (ga_up h b y) a z := by
  funext q
  unfold ga_up
  by_cases e1 : q = a <;> by_cases e2 : q = b <;> simp [e1, e2]
theorem ga_up_4 {h : ga_H} {a b : Nat} {x0 y0 x1 y1 : va_E} (hne : b ≠ a) : ga_up (ga_up (ga_up (ga_up h b x0) a y0) b x1) a y1 = ga_up (ga_up h b x1) a y1 := by
  funext q
  unfold ga_up
  by_cases e1 : q = a <;> by_cases e2 : q = b <;> simp [e1, e2]
theorem ga_up_6 {h : ga_H} {a b : Nat} {z x0 y0 x2 x1 y1 : va_E} (hne : b ≠ a) : ga_up (ga_up (ga_up (ga_up (ga_up (ga_up h a z) b x0) a y0) b x2) b x1) a y1 = ga_up (ga_up h b x1) a y1 := by
  funext q
  unfold ga_up
  by_cases e1 : q = a <;> by_cases e2 : q = b <;> simp [e1, e2]
set_option maxHeartbeats 4000000 in
theorem ja_in2 (l : Launch) (hl : l.stackTraces = false) (G : ga_X) (a e k N x : Nat) (m : Int32) (f : Nat → Option Nat) (h : ga_H) (n : Nat) (hL : h a = some (ga_O 11 [.int m, .ref e, .int (nI k)])) (hE : h e = some (ga_R G 3 N f)) (hA : G.2.1 ≤ a) (hee : G.2.1 ≤ e) (hea : e ≠ a) (hk : k < N) (hN : N < 60000) (hx : ga_El h "java/lang/Object" x) : ga_C l G yJ2_add_2 cJ2_add_2 4 none ({ frames := 0, cells := 0, slots := 0, locals := 0 } : Room) [.ref a, .ref x, .ref e, .int (nI k)] h n (fun v' h' n' => v' = none ∧ h' = ga_up (ga_up h e (ga_R G 3 N (va_up f k (some x)))) a (ga_O 11 [.int m, .ref e, .int (nI (k + 1))]) ∧ n' = n) ga_no := by
  refine ga_start hl rfl (Nat.le_of_ble_eq_true rfl) (fun Γ e X Y hnm hxt => ?_)
  subst e
  have X : ga_E Γ G RJ2 cJ2_add_2 4 := X
  show ga Γ G h n 0 0 0 [(0, .ref a), (1, .ref x), (2, .ref e), (3, .int (nI k))] []
  refine ga_iload_n X 3 dJ2_add_2_0 rfl rfl ?_
  refine ga_aload_n X 2 dJ2_add_2_1 rfl rfl ?_
  refine ga_alen X 3 rfl (rfl : nI N = _) hE dJ2_add_2_2 ?_
  refine ga_icmp_ne X (tgt := 11) dJ2_add_2_3 (by decide) (fun c_3 => ?_) (fun c_3 => ?_)
  · refine ga_aload_n X 2 dJ2_add_2_11 rfl rfl ?_
    refine ga_iload_n X 3 dJ2_add_2_12 rfl rfl ?_
    refine ga_aload_n X 1 dJ2_add_2_13 rfl rfl ?_
    refine ga_aast X (k := 3) k rfl (by omega) (by omega) rfl hx hE hee dJ2_add_2_14 ?_
    refine ga_aload_n X 0 dJ2_add_2_15 rfl rfl ?_
    refine ga_iload_n X 3 dJ2_add_2_16 rfl rfl ?_
    refine ga_iconst X (v := 1) dJ2_add_2_17 (by decide) ?_
    refine ga_iaddN X k 1 rfl rfl dJ2_add_2_18 ?_
    refine ga_putE X in_J2 tyJ2 tyJ2_ok nmJ2 (ci := 11) rfl 2 (by decide) q117 rfl rfl ((ga_up_n (by omega)).trans hL) hA rfl rfl (Nat.le_of_ble_eq_true rfl) (fs' := [.int m, .ref e, .int (nI (k + 1))]) rfl dJ2_add_2_19 ?_
    exact ga_vret X Y dJ2_add_2_22 (by first | decide | omega | (dsimp only; omega)) (by first | decide | omega | (dsimp only; omega)) ⟨rfl, rfl, rfl⟩
  · exact absurd ((nI_eq (by omega) (by omega)).mp c_3) (by omega)
set_option maxHeartbeats 4000000 in
theorem ja_in (l : Launch) (hl : l.stackTraces = false) (G : ga_X) (a e k N x : Nat) (m : Int32) (f : Nat → Option Nat) (h : ga_H) (n : Nat) (hL : h a = some (ga_O 11 [.int m, .ref e, .int (nI k)])) (hE : h e = some (ga_R G 3 N f)) (hA : G.2.1 ≤ a) (hee : G.2.1 ≤ e) (hea : e ≠ a) (hk : k < N) (hN : N < 60000) (hx : ga_El h "java/lang/Object" x) : ga_C l G yJ2_add cJ2_add 2 (some FieldType.boolean) ({ frames := 1, cells := 0, slots := 0, locals := 23 } : Room) [.ref a, .ref x] h n (fun v' h' n' => v' = some (.int 1) ∧ h' = ga_up (ga_up h e (ga_R G 3 N (va_up f k (some x)))) a (ga_O 11 [.int (m + 1), .ref e, .int (nI (k + 1))]) ∧ n' = n) ga_no := by
  refine ga_start hl rfl (Nat.le_of_ble_eq_true rfl) (fun Γ e X Y hnm hxt => ?_)
  subst e
  have X : ga_E Γ G RJ2 cJ2_add 2 := X
  show ga Γ G h n 0 0 0 [(0, .ref a), (1, .ref x)] []
  refine ga_aload_n X 0 dJ2_add_0 rfl rfl ?_
  refine ga_dup X dJ2_add_1 rfl ?_
  refine ga_getS X in_J2 (ci := 11) rfl 0 (by decide) q121 q120 hL rfl dJ2_add_2 ?_
  refine ga_iconst X (v := 1) dJ2_add_5 (by decide) ?_
  refine ga_iadd X dJ2_add_6 ?_
  refine ga_putS X in_J2 tyJ2 tyJ2_ok nmJ2 (ci := 11) rfl 0 (by decide) q121 q120 rfl hL hA rfl rfl (Nat.le_of_ble_eq_true rfl) (fs' := [.int (m + 1), .ref e, .int (nI k)]) rfl dJ2_add_7 ?_
  refine ga_aload_n X 0 dJ2_add_10 rfl rfl ?_
  refine ga_aload_n X 1 dJ2_add_11 rfl rfl ?_
  refine ga_aload_n X 0 dJ2_add_12 rfl rfl ?_
  refine ga_get X in_J2 (ci := 11) rfl 1 (by decide) q114 rfl ga_up_s rfl dJ2_add_13 ?_
  refine ga_aload_n X 0 dJ2_add_16 rfl rfl ?_
  refine ga_get X in_J2 (ci := 11) rfl 2 (by decide) q117 rfl ga_up_s rfl dJ2_add_17 ?_
  refine ga_callV X Y (ja_in2 _ X.tr G a e k N x (m + 1) f _ _ ga_up_s ((ga_up_n (by omega)).trans hE) hA hee hea hk hN (hx.upO hL)) wJ2_131 (ci := 11) rfl ga_up_s ⟨Nat.le_of_ble_eq_true rfl, Nat.le_of_ble_eq_true rfl⟩ ⟨(by first | decide | omega | (dsimp only; omega)), (by first | decide | omega | (dsimp only; omega))⟩ rfl (Nat.le_of_ble_eq_true rfl) dJ2_add_20 (fun v1 h1 n1 hq _ => ?_) (fun _ _ _ q _ => q.elim)
  obtain ⟨rfl, hq2, hq3⟩ := hq
  rw [hq2, hq3]
  show ga Γ G _ _ _ _ 23 [(0, .ref a), (1, .ref x)] ([])
  refine ga_iconst X (v := 1) dJ2_add_23 (by decide) ?_
  exact ga_zret X Y rfl dJ2_add_24 (by first | decide | omega | (dsimp only; omega)) (by first | decide | omega | (dsimp only; omega)) ⟨rfl, (ga_up_3 hea), rfl⟩
set_option maxHeartbeats 4000000 in
theorem ja_gr2 (l : Launch) (hl : l.stackTraces = false) (G : ga_X) (a e N x : Nat) (m : Int32) (f : Nat → Option Nat) (h : ga_H) (n : Nat) (hL : h a = some (ga_O 11 [.int m, .ref e, .int (nI N)])) (hE : h e = some (ga_R G 3 N f)) (hA : G.2.1 ≤ a) (hAn : G.2.1 ≤ n) (hN : 2 ≤ N) (hN2 : N < 30000) (han : a < n) (hen : e < n) (hea : e ≠ a) (hee : G.2.1 ≤ e) (hel : ∀ i : Nat, i < N → ∀ y : Nat, f i = some y → ga_El h "java/lang/Object" y ∧ y < n) (hx : ga_El h "java/lang/Object" x) (hxn : x < n) : ga_C l G yJ2_add_2 cJ2_add_2 4 none ({ frames := 5, cells := 1, slots := N + N / 2, locals := 127 } : Room) [.ref a, .ref x, .ref e, .int (nI N)] h n (fun v' h' n' => v' = none ∧ h' = ga_up (ga_up h n (ga_R G 3 (N + N / 2) (va_up (va_cpy f (fun _ => none) 0 0 N) N (some x)))) a (ga_O 11 [.int m, .ref n, .int (nI (N + 1))]) ∧ n' = n + 1) ga_no := by
  refine ga_start hl rfl (Nat.le_of_ble_eq_true rfl) (fun Γ e X Y hnm hxt => ?_)
  subst e
  have X : ga_E Γ G RJ2 cJ2_add_2 4 := X
  show ga Γ G h n 0 0 0 [(0, .ref a), (1, .ref x), (2, .ref e), (3, .int (nI N))] []
  refine ga_iload_n X 3 dJ2_add_2_0 rfl rfl ?_
  refine ga_aload_n X 2 dJ2_add_2_1 rfl rfl ?_
  refine ga_alen X 3 rfl (rfl : nI N = _) hE dJ2_add_2_2 ?_
  refine ga_icmp_ne X (tgt := 11) dJ2_add_2_3 (by decide) (fun c_3 => ?_) (fun c_3 => ?_)
  · exact absurd rfl c_3
  · refine ga_aload_n X 0 dJ2_add_2_6 rfl rfl ?_
    refine ga_callV X Y (jm_gr _ X.tr G a e N m f _ _ hL hE hA hAn hN hN2 han hen hea hee hel) wJ2_129 (ci := 11) rfl hL ⟨Nat.le_of_ble_eq_true rfl, Nat.le_of_ble_eq_true rfl⟩ ⟨(by first | decide | omega | (dsimp only; omega)), (by first | decide | omega | (dsimp only; omega))⟩ rfl (Nat.le_of_ble_eq_true rfl) dJ2_add_2_7 (fun v1 h1 n1 hq _ => ?_) (fun _ _ _ q _ => q.elim)
    obtain ⟨rfl, hq2, hq3⟩ := hq
    rw [hq2, hq3]
    show ga Γ G _ _ _ _ 10 [(0, .ref a), (1, .ref x), (2, .ref e), (3, .int (nI N))] (.ref n :: [])
    refine ga_astore_n X [(2, .ref n), (0, .ref a), (1, .ref x), (3, .int (nI N))] dJ2_add_2_10 rfl (by decide) rfl ?_
    refine ga_aload_n X 0 dJ2_add_2_11 rfl rfl ?_
    refine ga_iload_n X 3 dJ2_add_2_12 rfl rfl ?_
    refine ga_aload_n X 2 dJ2_add_2_13 rfl rfl ?_
    refine ga_aast X (k := 3) N rfl (by omega) (by omega) rfl ((hx.up (by omega)).upO ((ga_up_n (by omega)).trans hL)) ((ga_up_n (by omega)).trans ga_up_s) hAn dJ2_add_2_14 ?_
    refine ga_aload_n X 1 dJ2_add_2_15 rfl rfl ?_
    refine ga_iload_n X 3 dJ2_add_2_16 rfl rfl ?_
    refine ga_iconst X (v := 1) dJ2_add_2_17 (by decide) ?_
    refine ga_iaddN X N 1 rfl rfl dJ2_add_2_18 ?_
    refine ga_putE X in_J2 tyJ2 tyJ2_ok nmJ2 (ci := 11) rfl 2 (by decide) q117 rfl rfl ((ga_up_n (by omega)).trans ga_up_s) hA rfl rfl (Nat.le_of_ble_eq_true rfl) (fs' := [.int m, .ref n, .int (nI (N + 1))]) rfl dJ2_add_2_19 ?_
    exact ga_vret X Y dJ2_add_2_22 (by first | decide | omega | (dsimp only; omega)) (by first | decide | omega | (dsimp only; omega)) ⟨rfl, (ga_up_4 (by omega)), rfl⟩
set_option maxHeartbeats 4000000 in
theorem ja_gr (l : Launch) (hl : l.stackTraces = false) (G : ga_X) (a e N x : Nat) (m : Int32) (f : Nat → Option Nat) (h : ga_H) (n : Nat) (hL : h a = some (ga_O 11 [.int m, .ref e, .int (nI N)])) (hE : h e = some (ga_R G 3 N f)) (hA : G.2.1 ≤ a) (hAn : G.2.1 ≤ n) (hN : 2 ≤ N) (hN2 : N < 30000) (han : a < n) (hen : e < n) (hea : e ≠ a) (hee : G.2.1 ≤ e) (hel : ∀ i : Nat, i < N → ∀ y : Nat, f i = some y → ga_El h "java/lang/Object" y ∧ y < n) (hx : ga_El h "java/lang/Object" x) (hxn : x < n) : ga_C l G yJ2_add cJ2_add 2 (some FieldType.boolean) ({ frames := 6, cells := 1, slots := N + N / 2, locals := 150 } : Room) [.ref a, .ref x] h n (fun v' h' n' => v' = some (.int 1) ∧ h' = ga_up (ga_up h n (ga_R G 3 (N + N / 2) (va_up (va_cpy f (fun _ => none) 0 0 N) N (some x)))) a (ga_O 11 [.int (m + 1), .ref n, .int (nI (N + 1))]) ∧ n' = n + 1) ga_no := by
  refine ga_start hl rfl (Nat.le_of_ble_eq_true rfl) (fun Γ e X Y hnm hxt => ?_)
  subst e
  have X : ga_E Γ G RJ2 cJ2_add 2 := X
  show ga Γ G h n 0 0 0 [(0, .ref a), (1, .ref x)] []
  refine ga_aload_n X 0 dJ2_add_0 rfl rfl ?_
  refine ga_dup X dJ2_add_1 rfl ?_
  refine ga_getS X in_J2 (ci := 11) rfl 0 (by decide) q121 q120 hL rfl dJ2_add_2 ?_
  refine ga_iconst X (v := 1) dJ2_add_5 (by decide) ?_
  refine ga_iadd X dJ2_add_6 ?_
  refine ga_putS X in_J2 tyJ2 tyJ2_ok nmJ2 (ci := 11) rfl 0 (by decide) q121 q120 rfl hL hA rfl rfl (Nat.le_of_ble_eq_true rfl) (fs' := [.int (m + 1), .ref e, .int (nI N)]) rfl dJ2_add_7 ?_
  refine ga_aload_n X 0 dJ2_add_10 rfl rfl ?_
  refine ga_aload_n X 1 dJ2_add_11 rfl rfl ?_
  refine ga_aload_n X 0 dJ2_add_12 rfl rfl ?_
  refine ga_get X in_J2 (ci := 11) rfl 1 (by decide) q114 rfl ga_up_s rfl dJ2_add_13 ?_
  refine ga_aload_n X 0 dJ2_add_16 rfl rfl ?_
  refine ga_get X in_J2 (ci := 11) rfl 2 (by decide) q117 rfl ga_up_s rfl dJ2_add_17 ?_
  refine ga_callV X Y (ja_gr2 _ X.tr G a e N x (m + 1) f _ _ ga_up_s ((ga_up_n (by omega)).trans hE) hA hAn hN hN2 han hen hea hee (fun i hi y hy => ⟨(hel i hi y hy).1.upO hL, (hel i hi y hy).2⟩) (hx.upO hL) hxn) wJ2_131 (ci := 11) rfl ga_up_s ⟨Nat.le_of_ble_eq_true rfl, Nat.le_of_ble_eq_true rfl⟩ ⟨(by first | decide | omega | (dsimp only; omega)), (by first | decide | omega | (dsimp only; omega))⟩ rfl (Nat.le_of_ble_eq_true rfl) dJ2_add_20 (fun v1 h1 n1 hq _ => ?_) (fun _ _ _ q _ => q.elim)
  obtain ⟨rfl, hq2, hq3⟩ := hq
  rw [hq2, hq3]
  show ga Γ G _ _ _ _ 23 [(0, .ref a), (1, .ref x)] ([])
  refine ga_iconst X (v := 1) dJ2_add_23 (by decide) ?_
  exact ga_zret X Y rfl dJ2_add_24 (by first | decide | omega | (dsimp only; omega)) (by first | decide | omega | (dsimp only; omega)) ⟨rfl, (ga_up_3 (by omega)), rfl⟩
set_option maxHeartbeats 4000000 in
theorem ja_fi2 (l : Launch) (hl : l.stackTraces = false) (G : ga_X) (a x : Nat) (m : Int32) (h : ga_H) (n : Nat) (hL : h a = some (ga_O 11 [.int m, .ref (G.2.2.2 0), .int 0])) (hA : G.2.1 ≤ a) (hAn : G.2.1 ≤ n) (han : a < n) (hx : ga_El h "java/lang/Object" x) (hxn : x < n) : ga_C l G yJ2_add_2 cJ2_add_2 4 none ({ frames := 3, cells := 1, slots := 10, locals := 64 } : Room) [.ref a, .ref x, .ref (G.2.2.2 0), .int 0] h n (fun v' h' n' => v' = none ∧ h' = ga_up (ga_up h n (ga_R G 3 10 (va_up (fun _ => none) 0 (some x)))) a (ga_O 11 [.int m, .ref n, .int (nI 1)]) ∧ n' = n + 1) ga_no := by
  refine ga_start hl rfl (Nat.le_of_ble_eq_true rfl) (fun Γ e X Y hnm hxt => ?_)
  subst e
  have X : ga_E Γ G RJ2 cJ2_add_2 4 := X
  show ga Γ G h n 0 0 0 [(0, .ref a), (1, .ref x), (2, .ref (G.2.2.2 0)), (3, .int 0)] []
  refine ga_iload_n X 3 dJ2_add_2_0 rfl rfl ?_
  refine ga_aload_n X 2 dJ2_add_2_1 rfl rfl ?_
  refine ga_len0 X dJ2_add_2_2 ?_
  refine ga_icmp_ne X (tgt := 11) dJ2_add_2_3 (by decide) (fun c_3 => ?_) (fun c_3 => ?_)
  · exact absurd c_3 (by decide)
  · refine ga_aload_n X 0 dJ2_add_2_6 rfl rfl ?_
    refine ga_callV X Y (jm_gr0 _ X.tr G a m _ _ hL hA hAn han) wJ2_129 (ci := 11) rfl hL ⟨Nat.le_of_ble_eq_true rfl, Nat.le_of_ble_eq_true rfl⟩ ⟨(by first | decide | omega | (dsimp only; omega)), (by first | decide | omega | (dsimp only; omega))⟩ rfl (Nat.le_of_ble_eq_true rfl) dJ2_add_2_7 (fun v1 h1 n1 hq _ => ?_) (fun _ _ _ q _ => q.elim)
    obtain ⟨rfl, hq2, hq3⟩ := hq
    rw [hq2, hq3]
    show ga Γ G _ _ _ _ 10 [(0, .ref a), (1, .ref x), (2, .ref (G.2.2.2 0)), (3, .int 0)] (.ref n :: [])
    refine ga_astore_n X [(2, .ref n), (0, .ref a), (1, .ref x), (3, .int 0)] dJ2_add_2_10 rfl (by decide) rfl ?_
    refine ga_aload_n X 0 dJ2_add_2_11 rfl rfl ?_
    refine ga_iload_n X 3 dJ2_add_2_12 rfl rfl ?_
    refine ga_aload_n X 2 dJ2_add_2_13 rfl rfl ?_
    refine ga_aast X (k := 3) 0 rfl (by omega) (by decide) rfl ((hx.up (by omega)).upO ((ga_up_n (by omega)).trans hL)) ((ga_up_n (by omega)).trans ga_up_s) hAn dJ2_add_2_14 ?_
    refine ga_aload_n X 1 dJ2_add_2_15 rfl rfl ?_
    refine ga_iload_n X 3 dJ2_add_2_16 rfl rfl ?_
    refine ga_iconst X (v := 1) dJ2_add_2_17 (by decide) ?_
    refine ga_iaddN X 0 1 rfl rfl dJ2_add_2_18 ?_
    refine ga_putE X in_J2 tyJ2 tyJ2_ok nmJ2 (ci := 11) rfl 2 (by decide) q117 rfl rfl ((ga_up_n (by omega)).trans ga_up_s) hA rfl rfl (Nat.le_of_ble_eq_true rfl) (fs' := [.int m, .ref n, .int (nI (0 + 1))]) rfl dJ2_add_2_19 ?_
    exact ga_vret X Y dJ2_add_2_22 (by first | decide | omega | (dsimp only; omega)) (by first | decide | omega | (dsimp only; omega)) ⟨rfl, (ga_up_4 (by omega)), rfl⟩
set_option maxHeartbeats 4000000 in
theorem ja_fi (l : Launch) (hl : l.stackTraces = false) (G : ga_X) (a x : Nat) (m : Int32) (h : ga_H) (n : Nat) (hL : h a = some (ga_O 11 [.int m, .ref (G.2.2.2 0), .int 0])) (hA : G.2.1 ≤ a) (hAn : G.2.1 ≤ n) (han : a < n) (hx : ga_El h "java/lang/Object" x) (hxn : x < n) : ga_C l G yJ2_add cJ2_add 2 (some FieldType.boolean) ({ frames := 4, cells := 1, slots := 10, locals := 87 } : Room) [.ref a, .ref x] h n (fun v' h' n' => v' = some (.int 1) ∧ h' = ga_up (ga_up h n (ga_R G 3 10 (va_up (fun _ => none) 0 (some x)))) a (ga_O 11 [.int (m + 1), .ref n, .int (nI 1)]) ∧ n' = n + 1) ga_no := by
  refine ga_start hl rfl (Nat.le_of_ble_eq_true rfl) (fun Γ e X Y hnm hxt => ?_)
  subst e
  have X : ga_E Γ G RJ2 cJ2_add 2 := X
  show ga Γ G h n 0 0 0 [(0, .ref a), (1, .ref x)] []
  refine ga_aload_n X 0 dJ2_add_0 rfl rfl ?_
  refine ga_dup X dJ2_add_1 rfl ?_
  refine ga_getS X in_J2 (ci := 11) rfl 0 (by decide) q121 q120 hL rfl dJ2_add_2 ?_
  refine ga_iconst X (v := 1) dJ2_add_5 (by decide) ?_
  refine ga_iadd X dJ2_add_6 ?_
  refine ga_putS X in_J2 tyJ2 tyJ2_ok nmJ2 (ci := 11) rfl 0 (by decide) q121 q120 rfl hL hA rfl rfl (Nat.le_of_ble_eq_true rfl) (fs' := [.int (m + 1), .ref (G.2.2.2 0), .int 0]) rfl dJ2_add_7 ?_
  refine ga_aload_n X 0 dJ2_add_10 rfl rfl ?_
  refine ga_aload_n X 1 dJ2_add_11 rfl rfl ?_
  refine ga_aload_n X 0 dJ2_add_12 rfl rfl ?_
  refine ga_get X in_J2 (ci := 11) rfl 1 (by decide) q114 rfl ga_up_s rfl dJ2_add_13 ?_
  refine ga_aload_n X 0 dJ2_add_16 rfl rfl ?_
  refine ga_get X in_J2 (ci := 11) rfl 2 (by decide) q117 rfl ga_up_s rfl dJ2_add_17 ?_
  refine ga_callV X Y (ja_fi2 _ X.tr G a x (m + 1) _ _ ga_up_s hA hAn han (hx.upO hL) hxn) wJ2_131 (ci := 11) rfl ga_up_s ⟨Nat.le_of_ble_eq_true rfl, Nat.le_of_ble_eq_true rfl⟩ ⟨(by first | decide | omega | (dsimp only; omega)), (by first | decide | omega | (dsimp only; omega))⟩ rfl (Nat.le_of_ble_eq_true rfl) dJ2_add_20 (fun v1 h1 n1 hq _ => ?_) (fun _ _ _ q _ => q.elim)
  obtain ⟨rfl, hq2, hq3⟩ := hq
  rw [hq2, hq3]
  show ga Γ G _ _ _ _ 23 [(0, .ref a), (1, .ref x)] ([])
  refine ga_iconst X (v := 1) dJ2_add_23 (by decide) ?_
  exact ga_zret X Y rfl dJ2_add_24 (by first | decide | omega | (dsimp only; omega)) (by first | decide | omega | (dsimp only; omega)) ⟨rfl, (ga_up_3 (by omega)), rfl⟩
set_option maxHeartbeats 4000000 in
theorem jm_rc (l : Launch) (hl : l.stackTraces = false) (G : ga_X) (a e i k : Nat) (m : Int32) (h : ga_H) (n : Nat) (hL : h a = some (ga_O 11 [.int m, .ref e, .int (nI k)])) (hi : i ≤ k) (hk : k < 60000) : ga_C l G yJ2_rangeCheckForAdd cJ2_rangeCheckForAdd 2 none ({ frames := 0, cells := 0, slots := 0, locals := 0 } : Room) [.ref a, .int (nI i)] h n (fun v' h' n' => v' = none ∧ h' = h ∧ n' = n) ga_no := by
  refine ga_start hl rfl (Nat.le_of_ble_eq_true rfl) (fun Γ e X Y hnm hxt => ?_)
  subst e
  have X : ga_E Γ G RJ2 cJ2_rangeCheckForAdd 2 := X
  show ga Γ G h n 0 0 0 [(0, .ref a), (1, .int (nI i))] []
  refine ga_iload_n X 1 dJ2_rangeCheckForAdd_0 rfl rfl ?_
  refine ga_aload_n X 0 dJ2_rangeCheckForAdd_1 rfl rfl ?_
  refine ga_get X in_J2 (ci := 11) rfl 2 (by decide) q117 rfl hL rfl dJ2_rangeCheckForAdd_2 ?_
  refine ga_icmp_gt X (tgt := 12) dJ2_rangeCheckForAdd_5 (by decide) (fun c_5 => ?_) (fun c_5 => ?_)
  · exact absurd c_5 (nI_nlt hi (by omega))
  · refine ga_iload_n X 1 dJ2_rangeCheckForAdd_8 rfl rfl ?_
    refine ga_if_ge X (tgt := 25) dJ2_rangeCheckForAdd_9 (by decide) (fun c_9 => ?_) (fun c_9 => ?_)
    · exact ga_vret X Y dJ2_rangeCheckForAdd_25 (by first | decide | omega | (dsimp only; omega)) (by first | decide | omega | (dsimp only; omega)) ⟨rfl, rfl, rfl⟩
    · exact absurd (nI_pos' (by omega)) c_9
set_option maxHeartbeats 4000000 in
theorem ja_at (l : Launch) (hl : l.stackTraces = false) (G : ga_X) (a e k N x i : Nat) (m : Int32) (f : Nat → Option Nat) (h : ga_H) (n : Nat) (hL : h a = some (ga_O 11 [.int m, .ref e, .int (nI k)])) (hE : h e = some (ga_R G 3 N f)) (hA : G.2.1 ≤ a) (hee : G.2.1 ≤ e) (hea : e ≠ a) (hk : k < N) (hN : N < 60000) (hi : i ≤ k) (hel : ∀ i : Nat, i < k → ∀ y : Nat, f i = some y → ga_El h "java/lang/Object" y) (hx : ga_El h "java/lang/Object" x) (hxe : x ≠ e) : ga_C l G yJ2_add_3 cJ2_add_3 5 none ({ frames := 1, cells := 0, slots := 0, locals := 40 } : Room) [.ref a, .int (nI i), .ref x] h n (fun v' h' n' => v' = none ∧ h' = ga_up (ga_up h e (ga_R G 3 N (va_up (va_cpy (f) (f) i (i + 1) (k - i)) i (some x)))) a (ga_O 11 [.int (m + 1), .ref e, .int (nI (k + 1))]) ∧ n' = n) ga_no := by
  refine ga_start hl rfl (Nat.le_of_ble_eq_true rfl) (fun Γ e X Y hnm hxt => ?_)
  subst e
  have X : ga_E Γ G RJ2 cJ2_add_3 5 := X
  show ga Γ G h n 0 0 0 [(0, .ref a), (1, .int (nI i)), (2, .ref x)] []
  refine ga_aload_n X 0 dJ2_add_3_0 rfl rfl ?_
  refine ga_iload_n X 1 dJ2_add_3_1 rfl rfl ?_
  refine ga_callV X Y (jm_rc _ X.tr G a _ i _ m _ _ hL hi (by omega)) wJ2_135 (ci := 11) rfl hL ⟨Nat.le_of_ble_eq_true rfl, Nat.le_of_ble_eq_true rfl⟩ ⟨(by first | decide | omega | (dsimp only; omega)), (by first | decide | omega | (dsimp only; omega))⟩ rfl (Nat.le_of_ble_eq_true rfl) dJ2_add_3_2 (fun v1 h1 n1 hq _ => ?_) (fun _ _ _ q _ => q.elim)
  obtain ⟨rfl, hq2, hq3⟩ := hq
  rw [hq2, hq3]
  show ga Γ G _ _ _ _ 5 [(0, .ref a), (1, .int (nI i)), (2, .ref x)] ([])
  refine ga_aload_n X 0 dJ2_add_3_5 rfl rfl ?_
  refine ga_dup X dJ2_add_3_6 rfl ?_
  refine ga_getS X in_J2 (ci := 11) rfl 0 (by decide) q121 q120 hL rfl dJ2_add_3_7 ?_
  refine ga_iconst X (v := 1) dJ2_add_3_10 (by decide) ?_
  refine ga_iadd X dJ2_add_3_11 ?_
  refine ga_putS X in_J2 tyJ2 tyJ2_ok nmJ2 (ci := 11) rfl 0 (by decide) q121 q120 rfl hL hA rfl rfl (Nat.le_of_ble_eq_true rfl) (fs' := [.int (m + 1), .ref e, .int (nI k)]) rfl dJ2_add_3_12 ?_
  refine ga_aload_n X 0 dJ2_add_3_15 rfl rfl ?_
  refine ga_get X in_J2 (ci := 11) rfl 2 (by decide) q117 rfl ga_up_s rfl dJ2_add_3_16 ?_
  refine ga_dup X dJ2_add_3_19 rfl ?_
  refine ga_istore_n X [(3, .int (nI k)), (0, .ref a), (1, .int (nI i)), (2, .ref x)] dJ2_add_3_20 rfl (by decide) rfl ?_
  refine ga_aload_n X 1 dJ2_add_3_21 rfl rfl ?_
  refine ga_get X in_J2 (ci := 11) rfl 1 (by decide) q114 rfl ga_up_s rfl dJ2_add_3_22 ?_
  refine ga_dup X dJ2_add_3_25 rfl ?_
  refine ga_astore X [(4, .ref e), (3, .int (nI k)), (0, .ref a), (1, .int (nI i)), (2, .ref x)] dJ2_add_3_26 (by decide) rfl ?_
  refine ga_alen X 3 rfl (rfl : nI N = _) ((ga_up_n (by omega)).trans hE) dJ2_add_3_28 ?_
  refine ga_icmp_ne X (tgt := 38) dJ2_add_3_29 (by decide) (fun c_29 => ?_) (fun c_29 => ?_)
  · refine ga_aload X 0 dJ2_add_3_38 rfl ?_
    refine ga_iload_n X 3 dJ2_add_3_40 rfl rfl ?_
    refine ga_aload X 0 dJ2_add_3_41 rfl ?_
    refine ga_iload_n X 3 dJ2_add_3_43 rfl rfl ?_
    refine ga_iconst X (v := 1) dJ2_add_3_44 (by decide) ?_
    refine ga_iaddN X i 1 rfl rfl dJ2_add_3_45 ?_
    refine ga_iload_n X 1 dJ2_add_3_46 rfl rfl ?_
    refine ga_iload_n X 3 dJ2_add_3_47 rfl rfl ?_
    refine ga_isubN X k i rfl rfl hi dJ2_add_3_48 ?_
    refine ga_copyr X Y q977 q514 q513 q73 ((ga_up_n (by omega)).trans hE) ((ga_up_n (by omega)).trans hE) hee i (i + 1) (k - i) rfl rfl rfl (by first | decide | omega | (dsimp only; omega)) (by first | decide | omega | (dsimp only; omega)) (by omega) (by omega) (fun j hj y hy => (hel (i + j) (by omega) y hy).upO hL) (by first | decide | omega | (dsimp only; omega)) (by first | decide | omega | (dsimp only; omega)) (Nat.le_of_ble_eq_true rfl) dJ2_add_3_49 ?_
    refine ga_aload X 0 dJ2_add_3_52 rfl ?_
    refine ga_iload_n X 3 dJ2_add_3_54 rfl rfl ?_
    refine ga_aload_n X 4 dJ2_add_3_55 rfl rfl ?_
    refine ga_aast X (k := 3) i rfl (by omega) (by omega) rfl ((hx.upO hL).up (fun z => hxe z)) ga_up_s hee dJ2_add_3_56 ?_
    refine ga_aload_n X 2 dJ2_add_3_57 rfl rfl ?_
    refine ga_iload_n X 1 dJ2_add_3_58 rfl rfl ?_
    refine ga_iconst X (v := 1) dJ2_add_3_59 (by decide) ?_
    refine ga_iaddN X k 1 rfl rfl dJ2_add_3_60 ?_
    refine ga_putE X in_J2 tyJ2 tyJ2_ok nmJ2 (ci := 11) rfl 2 (by decide) q117 rfl rfl ((ga_up_n (by omega)).trans ((ga_up_n (by omega)).trans ga_up_s)) hA rfl rfl (Nat.le_of_ble_eq_true rfl) (fs' := [.int (m + 1), .ref e, .int (nI (k + 1))]) rfl dJ2_add_3_61 ?_
    exact ga_vret X Y dJ2_add_3_64 (by first | decide | omega | (dsimp only; omega)) (by first | decide | omega | (dsimp only; omega)) ⟨rfl, (ga_up_3b hea), rfl⟩
  · exact absurd ((nI_eq (by omega) (by omega)).mp c_29) (by omega)
set_option maxHeartbeats 4000000 in
theorem ja_atg (l : Launch) (hl : l.stackTraces = false) (G : ga_X) (a e N x i : Nat) (m : Int32) (f : Nat → Option Nat) (h : ga_H) (n : Nat) (hL : h a = some (ga_O 11 [.int m, .ref e, .int (nI N)])) (hE : h e = some (ga_R G 3 N f)) (hA : G.2.1 ≤ a) (hAn : G.2.1 ≤ n) (hN : 2 ≤ N) (hN2 : N < 30000) (han : a < n) (hen : e < n) (hea : e ≠ a) (hee : G.2.1 ≤ e) (hel : ∀ i : Nat, i < N → ∀ y : Nat, f i = some y → ga_El h "java/lang/Object" y ∧ y < n) (hi : i ≤ N) (hx : ga_El h "java/lang/Object" x) (hxn : x < n) : ga_C l G yJ2_add_3 cJ2_add_3 5 none ({ frames := 5, cells := 1, slots := N + N / 2, locals := 127 } : Room) [.ref a, .int (nI i), .ref x] h n (fun v' h' n' => v' = none ∧ h' = ga_up (ga_up h n (ga_R G 3 (N + N / 2) (va_up (va_cpy (va_cpy f (fun _ => none) 0 0 N) (va_cpy f (fun _ => none) 0 0 N) i (i + 1) (N - i)) i (some x)))) a (ga_O 11 [.int (m + 1), .ref n, .int (nI (N + 1))]) ∧ n' = n + 1) ga_no := by
  refine ga_start hl rfl (Nat.le_of_ble_eq_true rfl) (fun Γ e X Y hnm hxt => ?_)
  subst e
  have X : ga_E Γ G RJ2 cJ2_add_3 5 := X
  show ga Γ G h n 0 0 0 [(0, .ref a), (1, .int (nI i)), (2, .ref x)] []
  refine ga_aload_n X 0 dJ2_add_3_0 rfl rfl ?_
  refine ga_iload_n X 1 dJ2_add_3_1 rfl rfl ?_
  refine ga_callV X Y (jm_rc _ X.tr G a _ i _ m _ _ hL hi (by omega)) wJ2_135 (ci := 11) rfl hL ⟨Nat.le_of_ble_eq_true rfl, Nat.le_of_ble_eq_true rfl⟩ ⟨(by first | decide | omega | (dsimp only; omega)), (by first | decide | omega | (dsimp only; omega))⟩ rfl (Nat.le_of_ble_eq_true rfl) dJ2_add_3_2 (fun v1 h1 n1 hq _ => ?_) (fun _ _ _ q _ => q.elim)
  obtain ⟨rfl, hq2, hq3⟩ := hq
  rw [hq2, hq3]
  show ga Γ G _ _ _ _ 5 [(0, .ref a), (1, .int (nI i)), (2, .ref x)] ([])
  refine ga_aload_n X 0 dJ2_add_3_5 rfl rfl ?_
  refine ga_dup X dJ2_add_3_6 rfl ?_
  refine ga_getS X in_J2 (ci := 11) rfl 0 (by decide) q121 q120 hL rfl dJ2_add_3_7 ?_
  refine ga_iconst X (v := 1) dJ2_add_3_10 (by decide) ?_
  refine ga_iadd X dJ2_add_3_11 ?_
  refine ga_putS X in_J2 tyJ2 tyJ2_ok nmJ2 (ci := 11) rfl 0 (by decide) q121 q120 rfl hL hA rfl rfl (Nat.le_of_ble_eq_true rfl) (fs' := [.int (m + 1), .ref e, .int (nI N)]) rfl dJ2_add_3_12 ?_
  refine ga_aload_n X 0 dJ2_add_3_15 rfl rfl ?_
  refine ga_get X in_J2 (ci := 11) rfl 2 (by decide) q117 rfl ga_up_s rfl dJ2_add_3_16 ?_
  refine ga_dup X dJ2_add_3_19 rfl ?_
  refine ga_istore_n X [(3, .int (nI N)), (0, .ref a), (1, .int (nI i)), (2, .ref x)] dJ2_add_3_20 rfl (by decide) rfl ?_
  refine ga_aload_n X 1 dJ2_add_3_21 rfl rfl ?_
  refine ga_get X in_J2 (ci := 11) rfl 1 (by decide) q114 rfl ga_up_s rfl dJ2_add_3_22 ?_
  refine ga_dup X dJ2_add_3_25 rfl ?_
  refine ga_astore X [(4, .ref e), (3, .int (nI N)), (0, .ref a), (1, .int (nI i)), (2, .ref x)] dJ2_add_3_26 (by decide) rfl ?_
  refine ga_alen X 3 rfl (rfl : nI N = _) ((ga_up_n (by omega)).trans hE) dJ2_add_3_28 ?_
  refine ga_icmp_ne X (tgt := 38) dJ2_add_3_29 (by decide) (fun c_29 => ?_) (fun c_29 => ?_)
  · exact absurd rfl c_29
  · refine ga_aload_n X 2 dJ2_add_3_32 rfl rfl ?_
    refine ga_callV X Y (jm_gr _ X.tr G a e N (m + 1) f _ _ ga_up_s ((ga_up_n (by omega)).trans hE) hA hAn hN hN2 han hen hea hee (fun j hj y hy => ⟨(hel j hj y hy).1.upO hL, (hel j hj y hy).2⟩)) wJ2_129 (ci := 11) rfl ga_up_s ⟨Nat.le_of_ble_eq_true rfl, Nat.le_of_ble_eq_true rfl⟩ ⟨(by first | decide | omega | (dsimp only; omega)), (by first | decide | omega | (dsimp only; omega))⟩ rfl (Nat.le_of_ble_eq_true rfl) dJ2_add_3_33 (fun v1 h1 n1 hq _ => ?_) (fun _ _ _ q _ => q.elim)
    obtain ⟨rfl, hq2, hq3⟩ := hq
    rw [hq2, hq3]
    show ga Γ G _ _ _ _ 36 [(4, .ref e), (3, .int (nI N)), (0, .ref a), (1, .int (nI i)), (2, .ref x)] (.ref n :: [])
    refine ga_astore X [(4, .ref n), (3, .int (nI N)), (0, .ref a), (1, .int (nI i)), (2, .ref x)] dJ2_add_3_36 (by decide) rfl ?_
    refine ga_aload X 0 dJ2_add_3_38 rfl ?_
    refine ga_iload_n X 3 dJ2_add_3_40 rfl rfl ?_
    refine ga_aload X 0 dJ2_add_3_41 rfl ?_
    refine ga_iload_n X 3 dJ2_add_3_43 rfl rfl ?_
    refine ga_iconst X (v := 1) dJ2_add_3_44 (by decide) ?_
    refine ga_iaddN X i 1 rfl rfl dJ2_add_3_45 ?_
    refine ga_iload_n X 1 dJ2_add_3_46 rfl rfl ?_
    refine ga_iload_n X 3 dJ2_add_3_47 rfl rfl ?_
    refine ga_isubN X N i rfl rfl hi dJ2_add_3_48 ?_
    refine ga_copyr X Y q977 q514 q513 q73 ((ga_up_n (by omega)).trans ga_up_s) ((ga_up_n (by omega)).trans ga_up_s) hAn i (i + 1) (N - i) rfl rfl rfl (by first | decide | omega | (dsimp only; omega)) (by first | decide | omega | (dsimp only; omega)) (by omega) (by omega) (fun j hj y hy => by
      have hq : f (i + j) = some y := by
        rw [← hy]
        exact (show f (i + j) = va_cpy f (fun _ => none) 0 0 N (i + j) by unfold va_cpy; rw [if_pos (by omega)]; congr 1; omega)
      exact (((hel (i + j) (by omega) y hq).1.upO hL).up (by have := (hel (i + j) (by omega) y hq).2; omega)).upO ((ga_up_n (by omega)).trans ga_up_s)) (by first | decide | omega | (dsimp only; omega)) (by first | decide | omega | (dsimp only; omega)) (Nat.le_of_ble_eq_true rfl) dJ2_add_3_49 ?_
    refine ga_aload X 0 dJ2_add_3_52 rfl ?_
    refine ga_iload_n X 3 dJ2_add_3_54 rfl rfl ?_
    refine ga_aload_n X 4 dJ2_add_3_55 rfl rfl ?_
    refine ga_aast X (k := 3) i rfl (by omega) (by omega) rfl ((((hx.upO hL).up (by omega)).upO ((ga_up_n (by omega)).trans ga_up_s)).up (by omega)) ga_up_s hAn dJ2_add_3_56 ?_
    refine ga_aload_n X 2 dJ2_add_3_57 rfl rfl ?_
    refine ga_iload_n X 1 dJ2_add_3_58 rfl rfl ?_
    refine ga_iconst X (v := 1) dJ2_add_3_59 (by decide) ?_
    refine ga_iaddN X N 1 rfl rfl dJ2_add_3_60 ?_
    refine ga_putE X in_J2 tyJ2 tyJ2_ok nmJ2 (ci := 11) rfl 2 (by decide) q117 rfl rfl ((ga_up_n (by omega)).trans ((ga_up_n (by omega)).trans ga_up_s)) hA rfl rfl (Nat.le_of_ble_eq_true rfl) (fs' := [.int (m + 1), .ref n, .int (nI (N + 1))]) rfl dJ2_add_3_61 ?_
    exact ga_vret X Y dJ2_add_3_64 (by first | decide | omega | (dsimp only; omega)) (by first | decide | omega | (dsimp only; omega)) ⟨rfl, (ga_up_6 (by omega)), rfl⟩
set_option maxHeartbeats 4000000 in
theorem ja_at0 (l : Launch) (hl : l.stackTraces = false) (G : ga_X) (a x : Nat) (m : Int32) (h : ga_H) (n : Nat) (hL : h a = some (ga_O 11 [.int m, .ref (G.2.2.2 0), .int 0])) (hA : G.2.1 ≤ a) (hAn : G.2.1 ≤ n) (han : a < n) (hx : ga_El h "java/lang/Object" x) (hxn : x < n) : ga_C l G yJ2_add_3 cJ2_add_3 5 none ({ frames := 3, cells := 1, slots := 10, locals := 64 } : Room) [.ref a, .int 0, .ref x] h n (fun v' h' n' => v' = none ∧ h' = ga_up (ga_up h n (ga_R G 3 10 (va_up (va_cpy (fun _ => none) (fun _ => none) 0 1 0) 0 (some x)))) a (ga_O 11 [.int (m + 1), .ref n, .int (nI 1)]) ∧ n' = n + 1) ga_no := by
  refine ga_start hl rfl (Nat.le_of_ble_eq_true rfl) (fun Γ e X Y hnm hxt => ?_)
  subst e
  have X : ga_E Γ G RJ2 cJ2_add_3 5 := X
  show ga Γ G h n 0 0 0 [(0, .ref a), (1, .int 0), (2, .ref x)] []
  refine ga_aload_n X 0 dJ2_add_3_0 rfl rfl ?_
  refine ga_iload_n X 1 dJ2_add_3_1 rfl rfl ?_
  refine ga_callV X Y (jm_rc _ X.tr G a _ 0 0 m _ _ hL (by decide) (by decide)) wJ2_135 (ci := 11) rfl hL ⟨Nat.le_of_ble_eq_true rfl, Nat.le_of_ble_eq_true rfl⟩ ⟨(by first | decide | omega | (dsimp only; omega)), (by first | decide | omega | (dsimp only; omega))⟩ rfl (Nat.le_of_ble_eq_true rfl) dJ2_add_3_2 (fun v1 h1 n1 hq _ => ?_) (fun _ _ _ q _ => q.elim)
  obtain ⟨rfl, hq2, hq3⟩ := hq
  rw [hq2, hq3]
  show ga Γ G _ _ _ _ 5 [(0, .ref a), (1, .int 0), (2, .ref x)] ([])
  refine ga_aload_n X 0 dJ2_add_3_5 rfl rfl ?_
  refine ga_dup X dJ2_add_3_6 rfl ?_
  refine ga_getS X in_J2 (ci := 11) rfl 0 (by decide) q121 q120 hL rfl dJ2_add_3_7 ?_
  refine ga_iconst X (v := 1) dJ2_add_3_10 (by decide) ?_
  refine ga_iadd X dJ2_add_3_11 ?_
  refine ga_putS X in_J2 tyJ2 tyJ2_ok nmJ2 (ci := 11) rfl 0 (by decide) q121 q120 rfl hL hA rfl rfl (Nat.le_of_ble_eq_true rfl) (fs' := [.int (m + 1), .ref (G.2.2.2 0), .int 0]) rfl dJ2_add_3_12 ?_
  refine ga_aload_n X 0 dJ2_add_3_15 rfl rfl ?_
  refine ga_get X in_J2 (ci := 11) rfl 2 (by decide) q117 rfl ga_up_s rfl dJ2_add_3_16 ?_
  refine ga_dup X dJ2_add_3_19 rfl ?_
  refine ga_istore_n X [(3, .int 0), (0, .ref a), (1, .int 0), (2, .ref x)] dJ2_add_3_20 rfl (by decide) rfl ?_
  refine ga_aload_n X 1 dJ2_add_3_21 rfl rfl ?_
  refine ga_get X in_J2 (ci := 11) rfl 1 (by decide) q114 rfl ga_up_s rfl dJ2_add_3_22 ?_
  refine ga_dup X dJ2_add_3_25 rfl ?_
  refine ga_astore X [(4, .ref (G.2.2.2 0)), (3, .int 0), (0, .ref a), (1, .int 0), (2, .ref x)] dJ2_add_3_26 (by decide) rfl ?_
  refine ga_len0 X dJ2_add_3_28 ?_
  refine ga_icmp_ne X (tgt := 38) dJ2_add_3_29 (by decide) (fun c_29 => ?_) (fun c_29 => ?_)
  · exact absurd c_29 (by decide)
  · refine ga_aload_n X 2 dJ2_add_3_32 rfl rfl ?_
    refine ga_callV X Y (jm_gr0 _ X.tr G a (m + 1) _ _ ga_up_s hA hAn han) wJ2_129 (ci := 11) rfl ga_up_s ⟨Nat.le_of_ble_eq_true rfl, Nat.le_of_ble_eq_true rfl⟩ ⟨(by first | decide | omega | (dsimp only; omega)), (by first | decide | omega | (dsimp only; omega))⟩ rfl (Nat.le_of_ble_eq_true rfl) dJ2_add_3_33 (fun v1 h1 n1 hq _ => ?_) (fun _ _ _ q _ => q.elim)
    obtain ⟨rfl, hq2, hq3⟩ := hq
    rw [hq2, hq3]
    show ga Γ G _ _ _ _ 36 [(4, .ref (G.2.2.2 0)), (3, .int 0), (0, .ref a), (1, .int 0), (2, .ref x)] (.ref n :: [])
    refine ga_astore X [(4, .ref n), (3, .int 0), (0, .ref a), (1, .int 0), (2, .ref x)] dJ2_add_3_36 (by decide) rfl ?_
    refine ga_aload X 0 dJ2_add_3_38 rfl ?_
    refine ga_iload_n X 3 dJ2_add_3_40 rfl rfl ?_
    refine ga_aload X 0 dJ2_add_3_41 rfl ?_
    refine ga_iload_n X 3 dJ2_add_3_43 rfl rfl ?_
    refine ga_iconst X (v := 1) dJ2_add_3_44 (by decide) ?_
    refine ga_iadd X dJ2_add_3_45 ?_
    refine ga_iload_n X 1 dJ2_add_3_46 rfl rfl ?_
    refine ga_iload_n X 3 dJ2_add_3_47 rfl rfl ?_
    refine ga_isub X dJ2_add_3_48 ?_
    refine ga_st (st' := .int (nI 0) :: .int (nI 1) :: .ref n :: .int (nI 0) :: .ref n :: []) rfl ?_
    refine ga_copyr X Y q977 q514 q513 q73 ((ga_up_n (by omega)).trans ga_up_s) ((ga_up_n (by omega)).trans ga_up_s) hAn 0 1 0 rfl rfl rfl (by first | decide | omega | (dsimp only; omega)) (by first | decide | omega | (dsimp only; omega)) (by decide) (by decide) (fun j hj y hy => absurd hj (by omega)) (by first | decide | omega | (dsimp only; omega)) (by first | decide | omega | (dsimp only; omega)) (Nat.le_of_ble_eq_true rfl) dJ2_add_3_49 ?_
    refine ga_aload X 0 dJ2_add_3_52 rfl ?_
    refine ga_iload_n X 3 dJ2_add_3_54 rfl rfl ?_
    refine ga_aload_n X 4 dJ2_add_3_55 rfl rfl ?_
    refine ga_aast X (k := 3) 0 rfl (by omega) (by decide) rfl ((((hx.upO hL).up (by omega)).upO ((ga_up_n (by omega)).trans ga_up_s)).up (by omega)) ga_up_s hAn dJ2_add_3_56 ?_
    refine ga_aload_n X 2 dJ2_add_3_57 rfl rfl ?_
    refine ga_iload_n X 1 dJ2_add_3_58 rfl rfl ?_
    refine ga_iconst X (v := 1) dJ2_add_3_59 (by decide) ?_
    refine ga_iaddN X 0 1 rfl rfl dJ2_add_3_60 ?_
    refine ga_putE X in_J2 tyJ2 tyJ2_ok nmJ2 (ci := 11) rfl 2 (by decide) q117 rfl rfl ((ga_up_n (by omega)).trans ((ga_up_n (by omega)).trans ga_up_s)) hA rfl rfl (Nat.le_of_ble_eq_true rfl) (fs' := [.int (m + 1), .ref n, .int (nI (0 + 1))]) rfl dJ2_add_3_61 ?_
    exact ga_vret X Y dJ2_add_3_64 (by first | decide | omega | (dsimp only; omega)) (by first | decide | omega | (dsimp only; omega)) ⟨rfl, (ga_up_6 (by omega)), rfl⟩
