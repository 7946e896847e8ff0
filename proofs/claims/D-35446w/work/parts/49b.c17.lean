set_option maxRecDepth 100000
/-- a trade is put down -/
def cd_trN (N : gc_L) (jb js : Nat) : gc_L := up3 (up3 (up3 (up3 N 64 (1024 * (N 16 0) + N 14 (N 16 0)) jb) 65 (1024 * (N 16 0) + N 14 (N 16 0)) js) 14 (N 16 0) (N 14 (N 16 0) + 1)) 24 (N 16 0) (gc_cap (N 14 (N 16 0)) (N 24 (N 16 0)))
def cd_trT (N : gc_L) (t : gm_S) (p u : Int32) : gm_S := up2 (up2 (up2 t 3402 (1024 * (N 16 0) + N 14 (N 16 0)) p) 3403 (1024 * (N 16 0) + N 14 (N 16 0)) u) 1400 (N 16 0) (t 1400 (N 16 0) + 1)
def cd_mtJ (N : gc_L) (t : gm_S) (m : Nat) (o : Int32) (b : Bool) : Nat := if t 3303 (1024 * (N 16 0) + m) = 0 then (if b then cx o else m) else (if b then m else cx o)
/-- one round: exchange with the offer o -/
def cd_mtR (N : gc_L) (t : gm_S) (m : Nat) (o : Int32) : Int32 × gm_S := cd_exR t N (cd_mtJ N t m o false) (cd_mtJ N t m o true)
def cd_mtB (N : gc_L) (t : gm_S) (m : Nat) (o : Int32) : gc_L × gm_S := if (cd_mtR N t m o).1 ≤ 0 then (N, (cd_mtR N t m o).2) else (cd_trN N (cd_mtJ N t m o true) (cd_mtJ N t m o false), cd_trT N (cd_mtR N t m o).2 (t 3304 (1024 * (N 16 0) + cx o)) (cd_mtR N t m o).1)
def cd_mtL (m : Nat) : Nat → (Nat → Int32) → Int32 → gc_L → gm_S → gc_L × gm_S
  | 0, _, _, N, t => (N, t)
  | fu + 1, sn, o, N, t => if t 3305 (1024 * (N 16 0) + m) ≤ 0 ∨ o = -1 then (N, t) else cd_mtL m fu (cs_bestFor (cd_mtB N t m o).2 (cd_mtB N t m o).1 m sn) (cd_bestFor (cd_mtB N t m o).2 (cd_mtB N t m o).1 m sn) (cd_mtB N t m o).1 (cd_mtB N t m o).2
theorem cd_mtL_s (m fu : Nat) (sn : Nat → Int32) (o : Int32) (N : gc_L) (t : gm_S) : cd_mtL m (fu + 1) sn o N t = if t 3305 (1024 * (N 16 0) + m) ≤ 0 ∨ o = -1 then (N, t) else cd_mtL m fu (cs_bestFor (cd_mtB N t m o).2 (cd_mtB N t m o).1 m sn) (cd_bestFor (cd_mtB N t m o).2 (cd_mtB N t m o).1 m sn) (cd_mtB N t m o).1 (cd_mtB N t m o).2 := rfl
def cd_match (τ : gm_S) (N : gc_L) (m : Nat) : gc_L × gm_S := cd_mtL m 61 (cs_bestFor τ N m (fun _ => 0)) (cd_bestFor τ N m (fun _ => 0)) N τ
theorem bf_seen2 {τ : gm_S} {N : gc_L} {m : Nat} {sn : Nat → Int32} (h13 : N 13 (N 16 0) ≤ 60) (h : ¬ cd_bestFor τ N m sn = -1) : cx (cd_bestFor τ N m sn) < N 13 (N 16 0) ∧ sn (cx (cd_bestFor τ N m sn)) = 0 ∧ ¬ τ 3303 (1024 * (N 16 0) + cx (cd_bestFor τ N m sn)) = τ 3303 (1024 * (N 16 0) + m) := by
  obtain ⟨j, h1, h2, h3, -, h5⟩ := (bf_seen (τ := τ) (N := N) (m := m) (sn := sn) (N 13 (N 16 0))).resolve_left h
  have e : cx (cd_bestFor τ N m sn) = j := by
    unfold cd_bestFor
    rw [h2]; exact nI_clamp (by omega)
  rw [e]
  exact ⟨h1, h3, h5⟩
theorem bf_nz {τ : gm_S} {N : gc_L} {m : Nat} {sn : Nat → Int32} (h13 : N 13 (N 16 0) ≤ 60) (h : ¬ cd_bestFor τ N m sn = -1) : nz (cs_bestFor τ N m sn) 60 + 1 = nz sn 60 := by
  obtain ⟨h1, h2, -⟩ := bf_seen2 h13 h
  unfold cs_bestFor
  rw [if_neg h]
  exact nz_up h2 60 (by omega)
theorem ga_astoreI {Γ : ga_F} {G : ga_X} {h : ga_H} {n cells slots pc : Nat} {lv : List (Nat × Value)} {st : List Value} {own : String} {cc : ByteArray} {nL : Nat} (X : ga_E Γ G own cc nL) {j : Fin 4} {i : Nat} {p : Prop} [Decidable p] {x : Nat} (lv' : List (Nat × Value)) (hdg : decode cc pc = .ok (.astore_n j, 1)) (hi : (j : Nat) = i) (hn : i < nL) (hl' : lv.filter (fun q => !(q.1 == i) && !(q.1 + 1 == i && q.2.category == 2)) = lv')
    (kk : ga Γ G h n cells slots (pc + 1) ((i, (if p then .null else .ref x)) :: lv') st) : ga Γ G h n cells slots pc lv ((if p then .null else .ref x) :: st) := by
  by_cases hp : p
  · simp only [if_pos hp] at kk ⊢
    exact ga_astore_nN X _ hdg hi hn (by rw [hl']) kk
  · simp only [if_neg hp] at kk ⊢
    exact ga_astore_n X _ hdg hi hn (by rw [hl']) kk
set_option maxHeartbeats 8000000 in
theorem cm_match (l : Launch) (hl : l.stackTraces = false) (G : ga_X) (L N : gc_L) (τ : gm_S) (m : Nat) (hm13 : N 13 (N 16 0) = m) (hm : m < N 66 (N 16 0)) (hr : N 40 (N 16 0) ≠ 0) (hV : gc_V N τ) (hk : ∃ k, τ 3305 (1024 * (N 16 0) + m) = nI k ∧ N 14 (N 16 0) + k ≤ 600) : gn_C l G yX1_match cX1_match 7 none ({ frames := 9, cells := 794, slots := 59230, locals := 400 } : Room) [.ref (L 0 0), .ref (L 33 (1024 * (N 16 0) + m))] L N τ 0 none (cd_match τ N m).1 (cd_match τ N m).2 := by
  refine gn_start RX1 hl rfl (by decide) (Nat.le_of_ble_eq_true rfl) (fun Γ h1 h n0 n1 n e X Y hP hn hF hn1 hn01 hxt => ?_)
  subst e
  show ga Γ G h n 0 0 0 [(0, .ref (L 0 0)), (1, .ref (L 33 (1024 * (N 16 0) + m)))] []
  have hP0 := hP
  have hb13 := hP.n13 (N 16 0)
  have hF : gc_W L N n1 h1 h := fun a ha _ => hF a ha
  refine ga_bipush X (v := 60) dX1_match_0 (by decide) ?_
  refine ga_newz X Y 60 rfl (by first | decide | omega | (dsimp only; omega)) q187 (by first | decide | omega | (dsimp only; omega)) (by first | decide | omega | (dsimp only; omega)) dX1_match_2 ?_
  refine ga_astore_n X [(2, .ref n), (0, .ref (L 0 0)), (1, .ref (L 33 (1024 * (N 16 0) + m)))] dX1_match_4 rfl (by decide) rfl ?_
  refine ga_aload_n X 1 dX1_match_5 rfl rfl ?_
  refine ga_aload_n X 2 dX1_match_6 rfl rfl ?_
  refine ga_aload_n X 0 dX1_match_7 rfl rfl ?_
  have hP : gc_P G L N τ (n + 1) (ga_up h n (ga_Z G 60 (fun _ => 0))) := (hP.mono (Nat.le_trans hn (Nat.le_succ n))).tempU (fun k i hl => ga_up_n (Nat.ne_of_lt (Nat.lt_of_lt_of_le (hP.lt hl) hn)))
  have hU9 : gc_U L N n := fun k i hl e => absurd (hP0.lt hl) (by omega)
  have ht9 : ga_up h n (ga_Z G 60 (fun _ => 0)) n = some (ga_Z G 60 (fun _ => 0)) := ga_up_s
  have hA9 : G.2.1 ≤ n := Nat.le_trans hP0.G hn
  have hF : gc_W L N n1 h1 (ga_up h n (ga_Z G 60 (fun _ => 0))) := fun a ha hu => (ga_up_n (by omega)).trans (hF a ha hu)
  generalize hh8 : ga_up h n (ga_Z G 60 (fun _ => 0)) = h at hP ht9 hF ⊢
  obtain ⟨a9, ha9⟩ : ∃ a9, a9 = n := ⟨_, rfl⟩
  have hn18 : n1 ≤ n + 1 := by omega
  have ha8 : a9 < n + 1 := by omega
  have ha7 : n1 ≤ a9 := by omega
  rw [← ha9] at hU9 ht9 hA9
  obtain ⟨n8, hn8⟩ : ∃ n8, n8 = n + 1 := ⟨_, rfl⟩
  rw [← hn8] at hP hn18 ha8
  show ga Γ G _ _ (0 + 1) (0 + 60) 8 [(2, .ref n), (0, .ref (L 0 0)), (1, .ref (L 33 (1024 * (N 16 0) + m)))] (.ref n :: .ref (L 33 (1024 * (N 16 0) + m)) :: .ref (L 0 0) :: [])
  rw [← hn8, ← ha9]
  clear hn
  obtain ⟨n, rfl⟩ : ∃ n, n8 = n := ⟨_, rfl⟩
  refine ga_callV X Y (cm_bestFor _ X.tr G L N τ m a9 (fun _ => 0) (by omega) h n n hP (Nat.le_refl _) hA9 hU9 ht9) wX1_372 (ci := 0) rfl hP.r0 ⟨Nat.le_of_ble_eq_true rfl, Nat.le_of_ble_eq_true rfl⟩ ⟨(by first | decide | omega | (dsimp only; omega)), (by first | decide | omega | (dsimp only; omega))⟩ rfl (Nat.le_of_ble_eq_true rfl) dX1_match_8 (fun v9 h n9 hq _ => ?_) (fun _ _ _ q _ => q.elim)
  obtain ⟨rfl, rfl, ht9, hq⟩ := hq
  have hP := hP.tempU (fun k i hl => hq _ (hU9 k i hl))
  refine ga_astoreI X [(2, .ref a9), (0, .ref (L 0 0)), (1, .ref (L 33 (1024 * (N 16 0) + m)))] dX1_match_11 rfl (by decide) rfl ?_
  refine ga_sub [0, 2, 3, 1] rfl ?_
  have hnz : nz (fun _ => (0 : Int32)) 60 = 60 := by decide
  have hR0 : cd_match τ N m = cd_mtL m 61 (cs_bestFor τ N m (fun _ => 0)) (cd_bestFor τ N m (fun _ => 0)) N τ := rfl
  have hst : gc_G L N L N n1 := gc_G.refl
  have hWf : gc_W L N n1 h1 h := fun a ha hu => (hq a (by omega)).trans (hF a ha hu)
  clear hF hq
  obtain ⟨L0, hL0⟩ : ∃ L0, L0 = L := ⟨_, rfl⟩
  obtain ⟨N0, hN0⟩ : ∃ N0, N0 = N := ⟨_, rfl⟩
  obtain ⟨τ0, hτ0⟩ : ∃ τ0, τ0 = τ := ⟨_, rfl⟩
  have L12 : ∀ (fu : Nat) (sn : Nat → Int32) (o : Int32) (L N : gc_L) (t : gm_S) (h : ga_H) (n : Nat), fu ≤ 61 → 1 ≤ fu → (o = -1 ∨ (nz sn 60 + 2 ≤ fu ∧ cx o < m)) → L 0 0 = L0 0 0 → L 33 (1024 * (N 16 0) + m) = L0 33 (1024 * (N0 16 0) + m) → N 16 0 = N0 16 0 → N 13 (N 16 0) = m → m < N 66 (N 16 0) → N 40 (N 16 0) ≠ 0 → gc_V N t → (∃ k, t 3305 (1024 * (N 16 0) + m) = nI k ∧ N 14 (N 16 0) + k ≤ 600) → cd_match τ0 N0 m = cd_mtL m fu sn o N t → gc_P G L N t n h → n1 ≤ n → gc_W L0 N0 n1 h1 h → gc_G L0 N0 L N n1 → h a9 = some (ga_Z G 60 sn) → gc_U L N a9 → a9 < n → ga Γ G h n (1 + (61 - fu) * 13) (60 + (61 - fu) * 970) 12 [(3, (if o = -1 then .null else .ref (L 33 (1024 * (N 16 0) + cx o)))), (0, .ref (L 0 0)), (1, .ref (L 33 (1024 * (N 16 0) + m))), (2, .ref a9)] [] := by
    intro fu
    induction fu with
    | zero => intro sn o L N t h n _ h1z; exact absurd h1z (by decide)
    | succ fu ih =>
      intro sn o L N t h n hfu _ hfo hl0 hlm hN16 hN13 hm hr hV hk hR hP hn1 hWf hst ht9 hU9 ha8
      replace hR := hR.trans (cd_mtL_s _ _ _ _ _ _)
      have hn : n ≤ n := Nat.le_refl _
      have hb13 := hP.n13 (N 16 0)
      have hF : gc_V1 L N n n h h := ⟨fun _ _ _ => rfl, fun _ _ _ => rfl⟩
      refine ga_aload_n X 2 dX1_match_12 rfl rfl ?_
      refine ga_getN X in_X10 (ci := 8) rfl 5 (by decide) q1155 rfl (hP.r33 (Nat.le_refl _) hm) rfl dX1_match_13 ?_
      refine ga_if_le X (tgt := 106) dX1_match_16 (by decide) (fun c_16 => ?_) (fun c_16 => ?_)
      · have hX := hR.trans (if_pos (Or.inl c_16))
        exact ga_vret X Y dX1_match_106 (by first | decide | omega | (dsimp only; omega)) (by first | decide | omega | (dsimp only; omega)) ⟨rfl, rfl, hn1, hWf, L, (show gc_P G L (cd_match τ0 N0 m).1 (cd_match τ0 N0 m).2 n h by rw [hX]; exact hP), (show gc_G L0 N0 L (cd_match τ0 N0 m).1 n1 by rw [hX]; exact hst), hl0⟩
      · refine ga_aload_n X 0 dX1_match_19 rfl rfl ?_
        refine ga_ifnullI X (p := o = -1) (tgt := 106) dX1_match_20 (by decide) (fun c_20 => ?_) (fun c_20 => ?_)
        · have hX := hR.trans (if_pos (Or.inr c_20))
          exact ga_vret X Y dX1_match_106 (by first | decide | omega | (dsimp only; omega)) (by first | decide | omega | (dsimp only; omega)) ⟨rfl, rfl, hn1, hWf, L, (show gc_P G L (cd_match τ0 N0 m).1 (cd_match τ0 N0 m).2 n h by rw [hX]; exact hP), (show gc_G L0 N0 L (cd_match τ0 N0 m).1 n1 by rw [hX]; exact hst), hl0⟩
        · obtain ⟨hfn, hom⟩ := hfo.resolve_left c_20
          replace hR := hR.trans (if_neg (fun z => z.elim c_16 c_20))
          have ho66 : cx o < N 66 (N 16 0) := by omega
          refine ga_lv (lv' := [(3, .ref (L 33 (1024 * (N 16 0) + (cx o)))), (0, .ref (L 0 0)), (1, .ref (L 33 (1024 * (N 16 0) + m))), (2, .ref a9)]) (by rw [if_neg c_20]) ?_
          refine ga_aload_n X 2 dX1_match_23 rfl rfl ?_
          refine ga_getN X in_X10 (ci := 8) rfl 3 (by decide) q1151 rfl (hP.r33 (Nat.le_refl _) hm) rfl dX1_match_24 ?_
          refine ga_if_eq X (tgt := 34) dX1_match_27 (by decide) (fun c_27 => ?_) (fun c_27 => ?_)
          · refine ga_aload_n X 2 dX1_match_34 rfl rfl ?_
            refine ga_astore X [(4, .ref (L 33 (1024 * (N 16 0) + m))), (3, .ref (L 33 (1024 * (N 16 0) + (cx o)))), (0, .ref (L 0 0)), (1, .ref (L 33 (1024 * (N 16 0) + m))), (2, .ref a9)] dX1_match_35 (by decide) rfl ?_
            refine ga_aload_n X 3 dX1_match_37 rfl rfl ?_
            refine ga_getN X in_X10 (ci := 8) rfl 3 (by decide) q1151 rfl (hP.r33 (Nat.le_refl _) hm) rfl dX1_match_38 ?_
            refine ga_if_eq X (tgt := 48) dX1_match_41 (by decide) (fun c_41 => ?_) (fun c_41 => ?_)
            · refine ga_aload_n X 1 dX1_match_48 rfl rfl ?_
              refine ga_astore X [(5, .ref (L 33 (1024 * (N 16 0) + (cx o)))), (4, .ref (L 33 (1024 * (N 16 0) + m))), (3, .ref (L 33 (1024 * (N 16 0) + (cx o)))), (0, .ref (L 0 0)), (1, .ref (L 33 (1024 * (N 16 0) + m))), (2, .ref a9)] dX1_match_49 (by decide) rfl ?_
              refine ga_aload_n X 3 dX1_match_51 rfl rfl ?_
              refine ga_aload X 1 dX1_match_52 rfl ?_
              refine ga_aload X 0 dX1_match_54 rfl ?_
              have ejs : cd_mtJ N t m o false = m := by unfold cd_mtJ; rw [if_pos c_27]; rfl
              have ejb : cd_mtJ N t m o true = cx o := by unfold cd_mtJ; rw [if_pos c_27]; rfl
              have eR : cd_mtR N t m o = cd_exR t N m (cx o) := by unfold cd_mtR; rw [ejs, ejb]
              have hne : m ≠ cx o := by omega
              refine ga_callVW X Y (cm_exchange _ X.tr G L N t m (cx o) (by omega) (by omega) hne hr hV h n n hP hn) wX1_376 (ci := 0) rfl hP.r0 ⟨Nat.le_of_ble_eq_true rfl, Nat.le_of_ble_eq_true rfl⟩ ⟨(by first | decide | omega | (dsimp only; omega)), (by first | decide | omega | (dsimp only; omega))⟩ rfl (Nat.le_of_ble_eq_true rfl) dX1_match_56 (fun v9 h2 n2 hq _ => ?_) (fun _ _ _ q _ => q.elim)
              obtain ⟨rfl, hq2, hP2, hq4⟩ := hq
              have ht2 := (hq4.1 a9 ha8 hU9).trans ht9
              have hP2 := hP2.mono hq2
              have hWf2 := gc_W_G hWf hst hq4.1 hn1
              have hV2 : gc_V N (cd_exR t N m (cx o)).2 := hV.ex hne (by omega) (by omega) (fun d => (hP.1.2.2.2.2.1 d).2.2.2.2.2.2.2)
              obtain ⟨k, ek, hk6⟩ := hk
              obtain ⟨aj, eaj, haj⟩ := r10_ni (hV.r3305 (Nat.le_refl _) ho66)
              obtain ⟨v, hv1, hv2, hv3, hv4, hv5, hv6⟩ := cd_exL_w (N := N) (js := m) (jb := cx o) (y := cx_y t N m) (f := cx_z t N m) (g := cx_z t N (cx o)) hne 11 0 t 0 k aj rfl ek eaj
              have hv3 : (cd_exR t N m (cx o)).1 = nI v := by rw [show v = 0 + v by omega]; exact hv3
              have hvm : (cd_exR t N m (cx o)).2 3305 (1024 * (N 16 0) + m) = nI (k - v) := hv4
              have hvk : v ≤ k := hv1
              have hkp : ∀ key, key ≠ 4200 → key ≠ 3305 → (cd_exR t N m (cx o)).2 key = t key := fun key q1 q2 => cd_exL_n key q1 q2 _ _ _
              rw [← eR] at hP2 hV2 hv3 hvm hkp
              obtain ⟨⟨u2, t2⟩, hut⟩ : ∃ q, cd_mtR N t m o = q := ⟨_, rfl⟩
              rw [hut] at hP2 hV2 hv3 hvm hkp
              dsimp only at hP2 hV2 hv3 hvm hkp
              refine ga_st (st' := .int u2 :: []) (by rw [← eR, hut]; rfl) ?_
              have hn12 : n1 ≤ n2 := Nat.le_trans hn1 hq2
              have ha82 : a9 < n2 := Nat.lt_of_lt_of_le ha8 hq2
              clear hq4 hF hn ha8 hn1 hq2
              have hP := hP2
              have hn1 := hn12
              have ha8 := ha82
              have hn : n2 ≤ n2 := Nat.le_refl _
              refine ga_widen (k2 := 12 + (61 - (fu + 1)) * 13) (n2 := 126 + (61 - (fu + 1)) * 970) (by first | decide | omega | (dsimp only; omega)) (by first | decide | omega | (dsimp only; omega)) ?_
              revert hP2 hn12 ha82 ht2 hWf2 hP hn1 ha8 hn
              generalize h2 = h
              generalize n2 = n
              intro _ _ _ ht9 hWf hP hn1 ha8 hn
              have hF : gc_V1 L N n n h h := ⟨fun _ _ _ => rfl, fun _ _ _ => rfl⟩
              show ga Γ G h n (12 + (61 - (fu + 1)) * 13) (126 + (61 - (fu + 1)) * 970) 59 [(5, .ref (L 33 (1024 * (N 16 0) + (cx o)))), (4, .ref (L 33 (1024 * (N 16 0) + m))), (3, .ref (L 33 (1024 * (N 16 0) + (cx o)))), (0, .ref (L 0 0)), (1, .ref (L 33 (1024 * (N 16 0) + m))), (2, .ref a9)] (.int u2 :: [])
              refine ga_istore X [(6, .int u2), (5, .ref (L 33 (1024 * (N 16 0) + (cx o)))), (4, .ref (L 33 (1024 * (N 16 0) + m))), (3, .ref (L 33 (1024 * (N 16 0) + (cx o)))), (0, .ref (L 0 0)), (1, .ref (L 33 (1024 * (N 16 0) + m))), (2, .ref a9)] dX1_match_59 (by decide) rfl ?_
              refine ga_iload X 0 dX1_match_61 rfl ?_
              refine ga_if_le X (tgt := 96) dX1_match_63 (by decide) (fun c_63 => ?_) (fun c_63 => ?_)
              · have eB : cd_mtB N t m o = (N, t2) := by unfold cd_mtB; rw [hut]; exact if_pos c_63
                have hl03 := hl0
                have hlm3 := hlm
                have hN163 := hN16
                have hN133 := hN13
                have hm3 := hm
                have hr3 := hr
                have hV3 := hV2
                have hk3 : ∃ k, t2 3305 (1024 * (N 16 0) + m) = nI k ∧ N 14 (N 16 0) + k ≤ 600 := ⟨k - v, hvm, by omega⟩
                refine ga_aload_n X 4 dX1_match_96 rfl rfl ?_
                refine ga_aload_n X 5 dX1_match_97 rfl rfl ?_
                refine ga_aload_n X 6 dX1_match_98 rfl rfl ?_
                refine ga_callV X Y (cm_bestFor _ X.tr G L N t2 m a9 sn hm3 h n n hP (Nat.le_refl _) hA9 hU9 ht9) wX1_372 (ci := 0) rfl hP.r0 ⟨Nat.le_of_ble_eq_true rfl, Nat.le_of_ble_eq_true rfl⟩ ⟨(by first | decide | omega | (dsimp only; omega)), (by first | decide | omega | (dsimp only; omega))⟩ rfl (Nat.le_of_ble_eq_true rfl) dX1_match_99 (fun v9 h3 n3 hq _ => ?_) (fun _ _ _ q _ => q.elim)
                obtain ⟨rfl, rfl, ht9, hq⟩ := hq
                have hP := hP.tempU (fun k i hl => hq _ (hU9 k i hl))
                have hWf : gc_W L0 N0 n1 h1 h3 := fun a ha hu => (hq a (by omega)).trans (hWf a ha hu)
                refine ga_astoreI X [(6, .int u2), (5, .ref (L 33 (1024 * (N 16 0) + (cx o)))), (4, .ref (L 33 (1024 * (N 16 0) + m))), (0, .ref (L 0 0)), (1, .ref (L 33 (1024 * (N 16 0) + m))), (2, .ref a9)] dX1_match_102 rfl (by decide) rfl ?_
                refine ga_goto X (tgt := 12) dX1_match_103 (by decide) ?_
                refine ga_sub [0, 4, 5, 6] rfl ?_
                refine ga_widen (k2 := 1 + (61 - fu) * 13) (n2 := 60 + (61 - fu) * 970) (by first | decide | omega | (dsimp only; omega)) (by first | decide | omega | (dsimp only; omega)) ?_
                rw [eB] at hR
                exact ih _ _ L N t2 h3 n3 (by omega) (by omega) (by
                  by_cases z : cd_bestFor t2 N m sn = -1
                  · exact Or.inl z
                  · have z1 := bf_nz (by omega) z
                    have z2 := (bf_seen2 (by omega) z).1
                    exact Or.inr ⟨by omega, by omega⟩) hl03 hlm3 hN163 hN133 hm3 hr3 hV3 hk3 hR hP hn1 hWf hst ht9 hU9 ha8
              · refine ga_aload_n X 4 dX1_match_66 rfl rfl ?_
                refine ga_get X in_X1 (ci := 0) rfl 1 (by decide) q189 rfl hP.r0 rfl dX1_match_67 ?_
                refine ga_getN X in_X2 (ci := 1) rfl 4 (by decide) q152 rfl (hP.r36 (Nat.le_refl _)) rfl dX1_match_70 ?_
                refine ga_new X Y in_X12 tyX12 tyX12_ok (ci := 9) rfl q1201 q1202 q90 (fs := [.null, .null, .int 0, .int 0]) rfl (by first | decide | omega | (dsimp only; omega)) (by first | decide | omega | (dsimp only; omega)) dX1_match_73 ?_
                refine ga_widen (k2 := 13 + (61 - (fu + 1)) * 13) (n2 := 130 + (61 - (fu + 1)) * 970) (by first | decide | omega | (dsimp only; omega)) (by first | decide | omega | (dsimp only; omega)) ?_
                refine gs_al (P := fun t h n => ga Γ G h n (13 + (61 - (fu + 1)) * 13) (130 + (61 - (fu + 1)) * 970) 76 [(6, .int u2), (5, .ref (L 33 (1024 * (N 16 0) + (cx o)))), (4, .ref (L 33 (1024 * (N 16 0) + m))), (3, .ref (L 33 (1024 * (N 16 0) + (cx o)))), (0, .ref (L 0 0)), (1, .ref (L 33 (1024 * (N 16 0) + m))), (2, .ref a9)] (.ref t :: .ref (L 14 (N 16 0)) :: [])) hP hn hF hn1 (fun t76 h n hP hn hF hn1 hk ht_t76 hl_t76 ha_t76 hb_t76 he_t76 => ?_)
                refine ga_dup X dX1_match_76 rfl ?_
                refine ga_aload X 1 dX1_match_77 rfl ?_
                refine ga_aload X 2 dX1_match_79 rfl ?_
                refine ga_aload_n X 3 dX1_match_81 rfl rfl ?_
                refine ga_getN X in_X10 (ci := 8) rfl 4 (by decide) q1153 rfl (hP.r33 (Nat.le_refl _) ho66) rfl dX1_match_82 ?_
                refine ga_st (st' := .int (t 3304 (1024 * (N 16 0) + (cx o))) :: .ref (L 33 (1024 * (N 16 0) + m)) :: .ref (L 33 (1024 * (N 16 0) + (cx o))) :: .ref t76 :: .ref t76 :: .ref (L 14 (N 16 0)) :: []) (by rw [show t2 3304 (1024 * (N 16 0) + (cx o)) = (t 3304 (1024 * (N 16 0) + (cx o))) from (show t2 3304 (1024 * (N 16 0) + (cx o)) = t 3304 (1024 * (N 16 0) + (cx o)) from (congrFun (hkp 3304 (by decide) (by decide)) (1024 * (N 16 0) + (cx o))))]) ?_
                refine ga_iload X 0 dX1_match_85 rfl ?_
                refine ga_callI X Y (ci_X12 _ X.tr G t76 (L 33 (1024 * (N 16 0) + (cx o))) (L 33 (1024 * (N 16 0) + m)) (t 3304 (1024 * (N 16 0) + (cx o))) u2 _ _ ht_t76 (Nat.le_trans hP.G hb_t76)) wX1_385 ⟨Nat.le_of_ble_eq_true rfl, Nat.le_of_ble_eq_true rfl⟩ ⟨(by first | decide | omega | (dsimp only; omega)), (by first | decide | omega | (dsimp only; omega))⟩ rfl (Nat.le_of_ble_eq_true rfl) dX1_match_87 (fun v9 h9 n9 hq _ => ?_)
                obtain ⟨rfl, hq2, hq3⟩ := hq
                rw [hq2, hq3]
                refine ga_widen (k2 := 13 + (61 - (fu + 1)) * 13) (n2 := 130 + (61 - (fu + 1)) * 970) (by first | decide | omega | (dsimp only; omega)) (by first | decide | omega | (dsimp only; omega)) ?_
                show ga Γ G _ _ _ _ 90 [(6, .int u2), (5, .ref (L 33 (1024 * (N 16 0) + (cx o)))), (4, .ref (L 33 (1024 * (N 16 0) + m))), (3, .ref (L 33 (1024 * (N 16 0) + (cx o)))), (0, .ref (L 0 0)), (1, .ref (L 33 (1024 * (N 16 0) + m))), (2, .ref a9)] (.ref t76 :: .ref (L 14 (N 16 0)) :: [])
                refine gs_up (P := fun h => ga Γ G h n (13 + (61 - (fu + 1)) * 13) (130 + (61 - (fu + 1)) * 970) 90 [(6, .int u2), (5, .ref (L 33 (1024 * (N 16 0) + (cx o)))), (4, .ref (L 33 (1024 * (N 16 0) + m))), (3, .ref (L 33 (1024 * (N 16 0) + (cx o)))), (0, .ref (L 0 0)), (1, .ref (L 33 (1024 * (N 16 0) + m))), (2, .ref a9)] (.ref t76 :: .ref (L 14 (N 16 0)) :: [])) hP hF hb_t76 ha_t76 (fun h hP hF ht_t76 hk => ?_)
                have hv0 : 1 ≤ v := ni_pos hv3 c_63
                have hb14 := hP.n14 (N 16 0)
                have hdm := gc_dm (N 16 0) (N 14 (N 16 0)) (by omega)
                refine gn_addrow (kl := 14) (d := N 16 0) (τ' := up2 (up2 t2 3402 (1024 * (N 16 0) + N 14 (N 16 0)) (t 3304 (1024 * (N 16 0) + (cx o)))) 3403 (1024 * (N 16 0) + N 14 (N 16 0)) u2) (N1 := up3 (up3 N 64 (1024 * (N 16 0) + N 14 (N 16 0)) (cx o)) 65 (1024 * (N 16 0) + N 14 (N 16 0)) m) X Y hP hn hF.1 (Nat.le_refl _) wX1_81 (Or.inr (Or.inr (Or.inr (Or.inl rfl)))) (Nat.le_refl _) (show N 14 (N 16 0) < 600 by omega) (fun k i q1 q2 => (up3_n (by omega)).trans (up3_n (by omega))) (fun i hl => ⟨(up3_n (by omega)).trans (up3_n (fun q => by have hl2 : i / 1024 ≤ N 16 0 ∧ i % 1024 < N 14 (i / 1024) := hl; rw [q.2, hdm.1, hdm.2] at hl2; omega)), up3_n (fun q => by have hl2 : i / 1024 ≤ N 16 0 ∧ i % 1024 < N 14 (i / 1024) := hl; rw [q.2, hdm.1, hdm.2] at hl2; omega)⟩) ht_t76 hb_t76 hl_t76 (Or.inl ⟨9, _, _, ht_t76, rfl, Or.inr q1982⟩) (fun key j hc => (up2_ne (by omega)).trans (up2_ne (by omega))) (fun Lx Nx q1 q2 q3 q4 => by
                    have e64 : Nx 64 (1024 * (N 16 0) + N 14 (N 16 0)) = cx o := q2.trans ((up3_n (by omega)).trans up3_s)
                    have e65 : Nx 65 (1024 * (N 16 0) + N 14 (N 16 0)) = m := q3.trans up3_s
                    show ga_O 9 _ = ga_O 9 [.ref (Lx 33 (1024 * ((1024 * (N 16 0) + N 14 (N 16 0)) / 1024) + Nx 64 (1024 * (N 16 0) + N 14 (N 16 0)))), .ref (Lx 33 (1024 * ((1024 * (N 16 0) + N 14 (N 16 0)) / 1024) + Nx 65 (1024 * (N 16 0) + N 14 (N 16 0)))), .int (up2 (up2 (up2 t2 3402 (1024 * (N 16 0) + N 14 (N 16 0)) (t 3304 (1024 * (N 16 0) + (cx o)))) 3403 (1024 * (N 16 0) + N 14 (N 16 0)) u2) (100 * 14) (N 16 0) _ 3402 (1024 * (N 16 0) + N 14 (N 16 0))), .int (up2 (up2 (up2 t2 3402 (1024 * (N 16 0) + N 14 (N 16 0)) (t 3304 (1024 * (N 16 0) + (cx o)))) 3403 (1024 * (N 16 0) + N 14 (N 16 0)) u2) (100 * 14) (N 16 0) _ 3403 (1024 * (N 16 0) + N 14 (N 16 0)))] ∧ Nx 64 (1024 * (N 16 0) + N 14 (N 16 0)) < Nx 66 ((1024 * (N 16 0) + N 14 (N 16 0)) / 1024) ∧ Nx 65 (1024 * (N 16 0) + N 14 (N 16 0)) < Nx 66 ((1024 * (N 16 0) + N 14 (N 16 0)) / 1024)
                    rw [hdm.1, e64, e65, q4, q1 _ (by omega), q1 _ (by omega), up2_n (by decide), up2_n (by decide), up2_n (by decide), up2_ss, up2_ss]
                    exact ⟨rfl, by omega, by omega⟩) ⟨Nat.le_of_ble_eq_true rfl, Nat.le_of_ble_eq_true rfl⟩ ⟨(by first | decide | omega | (dsimp only; omega)), (by first | decide | omega | (dsimp only; omega))⟩ (Nat.le_of_ble_eq_true rfl) dX1_match_90 (fun L3 h4 n4 k2 k3 k4 k5 k6 => ?_)
                obtain ⟨N3, hN3⟩ : ∃ N3 : gc_L, N3 = cd_trN N (cx o) m := ⟨_, rfl⟩
                obtain ⟨t3, ht3⟩ : ∃ t3 : gm_S, t3 = cd_trT N t2 (t 3304 (1024 * (N 16 0) + (cx o))) u2 := ⟨_, rfl⟩
                have k2 : gc_P G L3 N3 t3 n4 h4 := by rw [hN3, ht3]; exact k2
                have k3 : gc_G L N L3 N3 n := by rw [hN3]; exact k3
                have e3o : ∀ k i, k ≠ 64 → k ≠ 65 → k ≠ 14 → k ≠ 24 → N3 k i = N k i := fun k i q1 q2 q3 q4 => by rw [hN3]; exact (up3_n (by omega)).trans ((up3_n (by omega)).trans ((up3_n (by omega)).trans (up3_n (by omega))))
                have hN16e : N3 16 0 = N 16 0 := e3o 16 0 (by decide) (by decide) (by decide) (by decide)
                have eB : cd_mtB N t m o = (N3, t3) := by
                  unfold cd_mtB
                  rw [hut, ejs, ejb, hN3, ht3]
                  exact if_neg c_63
                have hl0n : L3 0 0 = L 0 0 := k6 0 0 rfl (by omega)
                have hlmn : L3 33 (1024 * (N3 16 0) + m) = L 33 (1024 * (N 16 0) + m) := by rw [hN16e]; exact k6 33 _ (hP.l33 (Nat.le_refl _) hm) (by omega)
                have hl03 := hl0n.trans hl0
                have hlm3 := hlmn.trans hlm
                have hN163 := hN16e.trans hN16
                have hN133 : N3 13 (N3 16 0) = m := by rw [hN16e, e3o 13 _ (by decide) (by decide) (by decide) (by decide)]; exact hN13
                have hm3 : m < N3 66 (N3 16 0) := by rw [hN16e, e3o 66 _ (by decide) (by decide) (by decide) (by decide)]; exact hm
                have hr3 : N3 40 (N3 16 0) ≠ 0 := by rw [hN16e, e3o 40 _ (by decide) (by decide) (by decide) (by decide)]; exact hr
                have h143 : N3 14 (N3 16 0) = N 14 (N 16 0) + 1 := by rw [hN16e, hN3]; exact (up3_n (by omega)).trans up3_s
                have ht3n : ∀ key, key ≠ 3402 → key ≠ 3403 → key ≠ 1400 → t3 key = t2 key := fun key q1 q2 q3 => by rw [ht3]; unfold cd_trT; rw [up2_n q3, up2_n q2, up2_n q1]
                have hV3 : gc_V N3 t3 := hV2.keepN (fun key hk => ht3n key (by rintro rfl; revert hk; decide) (by rintro rfl; revert hk; decide) (by rintro rfl; revert hk; decide)) (fun d j hd hj => by rw [ht3n 3305 (by decide) (by decide) (by decide)]; exact hV2.r3305 hd hj) hN16e (fun k d hk => e3o k d (by omega) (by omega) (by omega) (by omega))
                have hk3 : ∃ k, t3 3305 (1024 * (N3 16 0) + m) = nI k ∧ N3 14 (N3 16 0) + k ≤ 600 := ⟨k - v, by rw [hN16e, ht3n 3305 (by decide) (by decide) (by decide)]; exact hvm, by rw [h143]; omega⟩
                have ht9 := (k4 a9 ha8 hU9).trans ht9
                have hWf := gc_W_G hWf hst k4 hn1
                have hst := gc_G_G hst k3 hn1
                have hU9 := gc_U_G hU9 k3 ha8
                have hn1 := Nat.le_trans hn1 k5
                have ha8 := Nat.lt_of_lt_of_le ha8 k5
                have hP := k2
                refine ga_sub [4, 5, 6] rfl ?_
                refine ga_lv (lv' := [(0, .ref (L3 0 0)), (1, .ref (L3 33 (1024 * (N3 16 0) + m))), (2, .ref a9)]) (by rw [hl0n, hlmn]) ?_
                revert hP ht9 hWf hn1 ha8 hst hU9
                clear k2 k3 k4 k5 hF hn
                generalize h4 = h
                generalize n4 = n
                intro hP ht9 hWf hn1 ha8 hst hU9
                refine ga_pop X dX1_match_95 rfl ?_
                refine ga_aload_n X 0 dX1_match_96 rfl rfl ?_
                refine ga_aload_n X 1 dX1_match_97 rfl rfl ?_
                refine ga_aload_n X 2 dX1_match_98 rfl rfl ?_
                refine ga_callV X Y (cm_bestFor _ X.tr G L3 N3 t3 m a9 sn hm3 h n n hP (Nat.le_refl _) hA9 hU9 ht9) wX1_372 (ci := 0) rfl hP.r0 ⟨Nat.le_of_ble_eq_true rfl, Nat.le_of_ble_eq_true rfl⟩ ⟨(by first | decide | omega | (dsimp only; omega)), (by first | decide | omega | (dsimp only; omega))⟩ rfl (Nat.le_of_ble_eq_true rfl) dX1_match_99 (fun v9 h3 n3 hq _ => ?_) (fun _ _ _ q _ => q.elim)
                obtain ⟨rfl, rfl, ht9, hq⟩ := hq
                have hP := hP.tempU (fun k i hl => hq _ (hU9 k i hl))
                have hWf : gc_W L0 N0 n1 h1 h3 := fun a ha hu => (hq a (by omega)).trans (hWf a ha hu)
                refine ga_astoreI X [(0, .ref (L3 0 0)), (1, .ref (L3 33 (1024 * (N3 16 0) + m))), (2, .ref a9)] dX1_match_102 rfl (by decide) rfl ?_
                refine ga_goto X (tgt := 12) dX1_match_103 (by decide) ?_
                refine ga_sub [0, 1, 2, 3] rfl ?_
                refine ga_widen (k2 := 1 + (61 - fu) * 13) (n2 := 60 + (61 - fu) * 970) (by first | decide | omega | (dsimp only; omega)) (by first | decide | omega | (dsimp only; omega)) ?_
                rw [eB] at hR
                exact ih _ _ L3 N3 t3 h3 n3 (by omega) (by omega) (by
                  by_cases z : cd_bestFor t3 N3 m sn = -1
                  · exact Or.inl z
                  · have z1 := bf_nz (by omega) z
                    have z2 := (bf_seen2 (by omega) z).1
                    exact Or.inr ⟨by omega, by omega⟩) hl03 hlm3 hN163 hN133 hm3 hr3 hV3 hk3 hR hP hn1 hWf hst ht9 hU9 ha8
            · exact absurd c_27 c_41
          · refine ga_aload_n X 0 dX1_match_30 rfl rfl ?_
            refine ga_goto X (tgt := 35) dX1_match_31 (by decide) ?_
            refine ga_astore X [(4, .ref (L 33 (1024 * (N 16 0) + (cx o)))), (3, .ref (L 33 (1024 * (N 16 0) + (cx o)))), (0, .ref (L 0 0)), (1, .ref (L 33 (1024 * (N 16 0) + m))), (2, .ref a9)] dX1_match_35 (by decide) rfl ?_
            refine ga_aload_n X 3 dX1_match_37 rfl rfl ?_
            refine ga_getN X in_X10 (ci := 8) rfl 3 (by decide) q1151 rfl (hP.r33 (Nat.le_refl _) hm) rfl dX1_match_38 ?_
            refine ga_if_eq X (tgt := 48) dX1_match_41 (by decide) (fun c_41 => ?_) (fun c_41 => ?_)
            · exact absurd c_41 c_27
            · refine ga_aload_n X 3 dX1_match_44 rfl rfl ?_
              refine ga_goto X (tgt := 49) dX1_match_45 (by decide) ?_
              refine ga_astore X [(5, .ref (L 33 (1024 * (N 16 0) + m))), (4, .ref (L 33 (1024 * (N 16 0) + (cx o)))), (3, .ref (L 33 (1024 * (N 16 0) + (cx o)))), (0, .ref (L 0 0)), (1, .ref (L 33 (1024 * (N 16 0) + m))), (2, .ref a9)] dX1_match_49 (by decide) rfl ?_
              refine ga_aload_n X 3 dX1_match_51 rfl rfl ?_
              refine ga_aload X 1 dX1_match_52 rfl ?_
              refine ga_aload X 0 dX1_match_54 rfl ?_
              have ejs : cd_mtJ N t m o false = cx o := by unfold cd_mtJ; rw [if_neg c_27]; rfl
              have ejb : cd_mtJ N t m o true = m := by unfold cd_mtJ; rw [if_neg c_27]; rfl
              have eR : cd_mtR N t m o = cd_exR t N (cx o) m := by unfold cd_mtR; rw [ejs, ejb]
              have hne : cx o ≠ m := by omega
              refine ga_callVW X Y (cm_exchange _ X.tr G L N t (cx o) m (by omega) (by omega) hne hr hV h n n hP hn) wX1_376 (ci := 0) rfl hP.r0 ⟨Nat.le_of_ble_eq_true rfl, Nat.le_of_ble_eq_true rfl⟩ ⟨(by first | decide | omega | (dsimp only; omega)), (by first | decide | omega | (dsimp only; omega))⟩ rfl (Nat.le_of_ble_eq_true rfl) dX1_match_56 (fun v9 h2 n2 hq _ => ?_) (fun _ _ _ q _ => q.elim)
              obtain ⟨rfl, hq2, hP2, hq4⟩ := hq
              have ht2 := (hq4.1 a9 ha8 hU9).trans ht9
              have hP2 := hP2.mono hq2
              have hWf2 := gc_W_G hWf hst hq4.1 hn1
              have hV2 : gc_V N (cd_exR t N (cx o) m).2 := hV.ex hne (by omega) (by omega) (fun d => (hP.1.2.2.2.2.1 d).2.2.2.2.2.2.2)
              obtain ⟨k, ek, hk6⟩ := hk
              obtain ⟨aj, eaj, haj⟩ := r10_ni (hV.r3305 (Nat.le_refl _) ho66)
              obtain ⟨v, hv1, hv2, hv3, hv4, hv5, hv6⟩ := cd_exL_w (N := N) (js := cx o) (jb := m) (y := cx_y t N (cx o)) (f := cx_z t N (cx o)) (g := cx_z t N m) hne 11 0 t 0 aj k rfl eaj ek
              have hv3 : (cd_exR t N (cx o) m).1 = nI v := by rw [show v = 0 + v by omega]; exact hv3
              have hvm : (cd_exR t N (cx o) m).2 3305 (1024 * (N 16 0) + m) = nI (k - v) := hv5
              have hvk : v ≤ k := hv2
              have hkp : ∀ key, key ≠ 4200 → key ≠ 3305 → (cd_exR t N (cx o) m).2 key = t key := fun key q1 q2 => cd_exL_n key q1 q2 _ _ _
              rw [← eR] at hP2 hV2 hv3 hvm hkp
              obtain ⟨⟨u2, t2⟩, hut⟩ : ∃ q, cd_mtR N t m o = q := ⟨_, rfl⟩
              rw [hut] at hP2 hV2 hv3 hvm hkp
              dsimp only at hP2 hV2 hv3 hvm hkp
              refine ga_st (st' := .int u2 :: []) (by rw [← eR, hut]; rfl) ?_
              have hn12 : n1 ≤ n2 := Nat.le_trans hn1 hq2
              have ha82 : a9 < n2 := Nat.lt_of_lt_of_le ha8 hq2
              clear hq4 hF hn ha8 hn1 hq2
              have hP := hP2
              have hn1 := hn12
              have ha8 := ha82
              have hn : n2 ≤ n2 := Nat.le_refl _
              refine ga_widen (k2 := 12 + (61 - (fu + 1)) * 13) (n2 := 126 + (61 - (fu + 1)) * 970) (by first | decide | omega | (dsimp only; omega)) (by first | decide | omega | (dsimp only; omega)) ?_
              revert hP2 hn12 ha82 ht2 hWf2 hP hn1 ha8 hn
              generalize h2 = h
              generalize n2 = n
              intro _ _ _ ht9 hWf hP hn1 ha8 hn
              have hF : gc_V1 L N n n h h := ⟨fun _ _ _ => rfl, fun _ _ _ => rfl⟩
              show ga Γ G h n (12 + (61 - (fu + 1)) * 13) (126 + (61 - (fu + 1)) * 970) 59 [(5, .ref (L 33 (1024 * (N 16 0) + m))), (4, .ref (L 33 (1024 * (N 16 0) + (cx o)))), (3, .ref (L 33 (1024 * (N 16 0) + (cx o)))), (0, .ref (L 0 0)), (1, .ref (L 33 (1024 * (N 16 0) + m))), (2, .ref a9)] (.int u2 :: [])
              refine ga_istore X [(6, .int u2), (5, .ref (L 33 (1024 * (N 16 0) + m))), (4, .ref (L 33 (1024 * (N 16 0) + (cx o)))), (3, .ref (L 33 (1024 * (N 16 0) + (cx o)))), (0, .ref (L 0 0)), (1, .ref (L 33 (1024 * (N 16 0) + m))), (2, .ref a9)] dX1_match_59 (by decide) rfl ?_
              refine ga_iload X 0 dX1_match_61 rfl ?_
              refine ga_if_le X (tgt := 96) dX1_match_63 (by decide) (fun c_63 => ?_) (fun c_63 => ?_)
              · have eB : cd_mtB N t m o = (N, t2) := by unfold cd_mtB; rw [hut]; exact if_pos c_63
                have hl03 := hl0
                have hlm3 := hlm
                have hN163 := hN16
                have hN133 := hN13
                have hm3 := hm
                have hr3 := hr
                have hV3 := hV2
                have hk3 : ∃ k, t2 3305 (1024 * (N 16 0) + m) = nI k ∧ N 14 (N 16 0) + k ≤ 600 := ⟨k - v, hvm, by omega⟩
                refine ga_aload_n X 4 dX1_match_96 rfl rfl ?_
                refine ga_aload_n X 5 dX1_match_97 rfl rfl ?_
                refine ga_aload_n X 6 dX1_match_98 rfl rfl ?_
                refine ga_callV X Y (cm_bestFor _ X.tr G L N t2 m a9 sn hm3 h n n hP (Nat.le_refl _) hA9 hU9 ht9) wX1_372 (ci := 0) rfl hP.r0 ⟨Nat.le_of_ble_eq_true rfl, Nat.le_of_ble_eq_true rfl⟩ ⟨(by first | decide | omega | (dsimp only; omega)), (by first | decide | omega | (dsimp only; omega))⟩ rfl (Nat.le_of_ble_eq_true rfl) dX1_match_99 (fun v9 h3 n3 hq _ => ?_) (fun _ _ _ q _ => q.elim)
                obtain ⟨rfl, rfl, ht9, hq⟩ := hq
                have hP := hP.tempU (fun k i hl => hq _ (hU9 k i hl))
                have hWf : gc_W L0 N0 n1 h1 h3 := fun a ha hu => (hq a (by omega)).trans (hWf a ha hu)
                refine ga_astoreI X [(6, .int u2), (5, .ref (L 33 (1024 * (N 16 0) + m))), (4, .ref (L 33 (1024 * (N 16 0) + (cx o)))), (0, .ref (L 0 0)), (1, .ref (L 33 (1024 * (N 16 0) + m))), (2, .ref a9)] dX1_match_102 rfl (by decide) rfl ?_
                refine ga_goto X (tgt := 12) dX1_match_103 (by decide) ?_
                refine ga_sub [0, 4, 5, 6] rfl ?_
                refine ga_widen (k2 := 1 + (61 - fu) * 13) (n2 := 60 + (61 - fu) * 970) (by first | decide | omega | (dsimp only; omega)) (by first | decide | omega | (dsimp only; omega)) ?_
                rw [eB] at hR
                exact ih _ _ L N t2 h3 n3 (by omega) (by omega) (by
                  by_cases z : cd_bestFor t2 N m sn = -1
                  · exact Or.inl z
                  · have z1 := bf_nz (by omega) z
                    have z2 := (bf_seen2 (by omega) z).1
                    exact Or.inr ⟨by omega, by omega⟩) hl03 hlm3 hN163 hN133 hm3 hr3 hV3 hk3 hR hP hn1 hWf hst ht9 hU9 ha8
              · refine ga_aload_n X 4 dX1_match_66 rfl rfl ?_
                refine ga_get X in_X1 (ci := 0) rfl 1 (by decide) q189 rfl hP.r0 rfl dX1_match_67 ?_
                refine ga_getN X in_X2 (ci := 1) rfl 4 (by decide) q152 rfl (hP.r36 (Nat.le_refl _)) rfl dX1_match_70 ?_
                refine ga_new X Y in_X12 tyX12 tyX12_ok (ci := 9) rfl q1201 q1202 q90 (fs := [.null, .null, .int 0, .int 0]) rfl (by first | decide | omega | (dsimp only; omega)) (by first | decide | omega | (dsimp only; omega)) dX1_match_73 ?_
                refine ga_widen (k2 := 13 + (61 - (fu + 1)) * 13) (n2 := 130 + (61 - (fu + 1)) * 970) (by first | decide | omega | (dsimp only; omega)) (by first | decide | omega | (dsimp only; omega)) ?_
                refine gs_al (P := fun t h n => ga Γ G h n (13 + (61 - (fu + 1)) * 13) (130 + (61 - (fu + 1)) * 970) 76 [(6, .int u2), (5, .ref (L 33 (1024 * (N 16 0) + m))), (4, .ref (L 33 (1024 * (N 16 0) + (cx o)))), (3, .ref (L 33 (1024 * (N 16 0) + (cx o)))), (0, .ref (L 0 0)), (1, .ref (L 33 (1024 * (N 16 0) + m))), (2, .ref a9)] (.ref t :: .ref (L 14 (N 16 0)) :: [])) hP hn hF hn1 (fun t76 h n hP hn hF hn1 hk ht_t76 hl_t76 ha_t76 hb_t76 he_t76 => ?_)
                refine ga_dup X dX1_match_76 rfl ?_
                refine ga_aload X 1 dX1_match_77 rfl ?_
                refine ga_aload X 2 dX1_match_79 rfl ?_
                refine ga_aload_n X 3 dX1_match_81 rfl rfl ?_
                refine ga_getN X in_X10 (ci := 8) rfl 4 (by decide) q1153 rfl (hP.r33 (Nat.le_refl _) ho66) rfl dX1_match_82 ?_
                refine ga_st (st' := .int (t 3304 (1024 * (N 16 0) + (cx o))) :: .ref (L 33 (1024 * (N 16 0) + (cx o))) :: .ref (L 33 (1024 * (N 16 0) + m)) :: .ref t76 :: .ref t76 :: .ref (L 14 (N 16 0)) :: []) (by rw [show t2 3304 (1024 * (N 16 0) + (cx o)) = (t 3304 (1024 * (N 16 0) + (cx o))) from (show t2 3304 (1024 * (N 16 0) + (cx o)) = t 3304 (1024 * (N 16 0) + (cx o)) from (congrFun (hkp 3304 (by decide) (by decide)) (1024 * (N 16 0) + (cx o))))]) ?_
                refine ga_iload X 0 dX1_match_85 rfl ?_
                refine ga_callI X Y (ci_X12 _ X.tr G t76 (L 33 (1024 * (N 16 0) + m)) (L 33 (1024 * (N 16 0) + (cx o))) (t 3304 (1024 * (N 16 0) + (cx o))) u2 _ _ ht_t76 (Nat.le_trans hP.G hb_t76)) wX1_385 ⟨Nat.le_of_ble_eq_true rfl, Nat.le_of_ble_eq_true rfl⟩ ⟨(by first | decide | omega | (dsimp only; omega)), (by first | decide | omega | (dsimp only; omega))⟩ rfl (Nat.le_of_ble_eq_true rfl) dX1_match_87 (fun v9 h9 n9 hq _ => ?_)
                obtain ⟨rfl, hq2, hq3⟩ := hq
                rw [hq2, hq3]
                refine ga_widen (k2 := 13 + (61 - (fu + 1)) * 13) (n2 := 130 + (61 - (fu + 1)) * 970) (by first | decide | omega | (dsimp only; omega)) (by first | decide | omega | (dsimp only; omega)) ?_
                show ga Γ G _ _ _ _ 90 [(6, .int u2), (5, .ref (L 33 (1024 * (N 16 0) + m))), (4, .ref (L 33 (1024 * (N 16 0) + (cx o)))), (3, .ref (L 33 (1024 * (N 16 0) + (cx o)))), (0, .ref (L 0 0)), (1, .ref (L 33 (1024 * (N 16 0) + m))), (2, .ref a9)] (.ref t76 :: .ref (L 14 (N 16 0)) :: [])
                refine gs_up (P := fun h => ga Γ G h n (13 + (61 - (fu + 1)) * 13) (130 + (61 - (fu + 1)) * 970) 90 [(6, .int u2), (5, .ref (L 33 (1024 * (N 16 0) + m))), (4, .ref (L 33 (1024 * (N 16 0) + (cx o)))), (3, .ref (L 33 (1024 * (N 16 0) + (cx o)))), (0, .ref (L 0 0)), (1, .ref (L 33 (1024 * (N 16 0) + m))), (2, .ref a9)] (.ref t76 :: .ref (L 14 (N 16 0)) :: [])) hP hF hb_t76 ha_t76 (fun h hP hF ht_t76 hk => ?_)
                have hv0 : 1 ≤ v := ni_pos hv3 c_63
                have hb14 := hP.n14 (N 16 0)
                have hdm := gc_dm (N 16 0) (N 14 (N 16 0)) (by omega)
                refine gn_addrow (kl := 14) (d := N 16 0) (τ' := up2 (up2 t2 3402 (1024 * (N 16 0) + N 14 (N 16 0)) (t 3304 (1024 * (N 16 0) + (cx o)))) 3403 (1024 * (N 16 0) + N 14 (N 16 0)) u2) (N1 := up3 (up3 N 64 (1024 * (N 16 0) + N 14 (N 16 0)) m) 65 (1024 * (N 16 0) + N 14 (N 16 0)) (cx o)) X Y hP hn hF.1 (Nat.le_refl _) wX1_81 (Or.inr (Or.inr (Or.inr (Or.inl rfl)))) (Nat.le_refl _) (show N 14 (N 16 0) < 600 by omega) (fun k i q1 q2 => (up3_n (by omega)).trans (up3_n (by omega))) (fun i hl => ⟨(up3_n (by omega)).trans (up3_n (fun q => by have hl2 : i / 1024 ≤ N 16 0 ∧ i % 1024 < N 14 (i / 1024) := hl; rw [q.2, hdm.1, hdm.2] at hl2; omega)), up3_n (fun q => by have hl2 : i / 1024 ≤ N 16 0 ∧ i % 1024 < N 14 (i / 1024) := hl; rw [q.2, hdm.1, hdm.2] at hl2; omega)⟩) ht_t76 hb_t76 hl_t76 (Or.inl ⟨9, _, _, ht_t76, rfl, Or.inr q1982⟩) (fun key j hc => (up2_ne (by omega)).trans (up2_ne (by omega))) (fun Lx Nx q1 q2 q3 q4 => by
                    have e64 : Nx 64 (1024 * (N 16 0) + N 14 (N 16 0)) = m := q2.trans ((up3_n (by omega)).trans up3_s)
                    have e65 : Nx 65 (1024 * (N 16 0) + N 14 (N 16 0)) = cx o := q3.trans up3_s
                    show ga_O 9 _ = ga_O 9 [.ref (Lx 33 (1024 * ((1024 * (N 16 0) + N 14 (N 16 0)) / 1024) + Nx 64 (1024 * (N 16 0) + N 14 (N 16 0)))), .ref (Lx 33 (1024 * ((1024 * (N 16 0) + N 14 (N 16 0)) / 1024) + Nx 65 (1024 * (N 16 0) + N 14 (N 16 0)))), .int (up2 (up2 (up2 t2 3402 (1024 * (N 16 0) + N 14 (N 16 0)) (t 3304 (1024 * (N 16 0) + (cx o)))) 3403 (1024 * (N 16 0) + N 14 (N 16 0)) u2) (100 * 14) (N 16 0) _ 3402 (1024 * (N 16 0) + N 14 (N 16 0))), .int (up2 (up2 (up2 t2 3402 (1024 * (N 16 0) + N 14 (N 16 0)) (t 3304 (1024 * (N 16 0) + (cx o)))) 3403 (1024 * (N 16 0) + N 14 (N 16 0)) u2) (100 * 14) (N 16 0) _ 3403 (1024 * (N 16 0) + N 14 (N 16 0)))] ∧ Nx 64 (1024 * (N 16 0) + N 14 (N 16 0)) < Nx 66 ((1024 * (N 16 0) + N 14 (N 16 0)) / 1024) ∧ Nx 65 (1024 * (N 16 0) + N 14 (N 16 0)) < Nx 66 ((1024 * (N 16 0) + N 14 (N 16 0)) / 1024)
                    rw [hdm.1, e64, e65, q4, q1 _ (by omega), q1 _ (by omega), up2_n (by decide), up2_n (by decide), up2_n (by decide), up2_ss, up2_ss]
                    exact ⟨rfl, by omega, by omega⟩) ⟨Nat.le_of_ble_eq_true rfl, Nat.le_of_ble_eq_true rfl⟩ ⟨(by first | decide | omega | (dsimp only; omega)), (by first | decide | omega | (dsimp only; omega))⟩ (Nat.le_of_ble_eq_true rfl) dX1_match_90 (fun L3 h4 n4 k2 k3 k4 k5 k6 => ?_)
                obtain ⟨N3, hN3⟩ : ∃ N3 : gc_L, N3 = cd_trN N m (cx o) := ⟨_, rfl⟩
                obtain ⟨t3, ht3⟩ : ∃ t3 : gm_S, t3 = cd_trT N t2 (t 3304 (1024 * (N 16 0) + (cx o))) u2 := ⟨_, rfl⟩
                have k2 : gc_P G L3 N3 t3 n4 h4 := by rw [hN3, ht3]; exact k2
                have k3 : gc_G L N L3 N3 n := by rw [hN3]; exact k3
                have e3o : ∀ k i, k ≠ 64 → k ≠ 65 → k ≠ 14 → k ≠ 24 → N3 k i = N k i := fun k i q1 q2 q3 q4 => by rw [hN3]; exact (up3_n (by omega)).trans ((up3_n (by omega)).trans ((up3_n (by omega)).trans (up3_n (by omega))))
                have hN16e : N3 16 0 = N 16 0 := e3o 16 0 (by decide) (by decide) (by decide) (by decide)
                have eB : cd_mtB N t m o = (N3, t3) := by
                  unfold cd_mtB
                  rw [hut, ejs, ejb, hN3, ht3]
                  exact if_neg c_63
                have hl0n : L3 0 0 = L 0 0 := k6 0 0 rfl (by omega)
                have hlmn : L3 33 (1024 * (N3 16 0) + m) = L 33 (1024 * (N 16 0) + m) := by rw [hN16e]; exact k6 33 _ (hP.l33 (Nat.le_refl _) hm) (by omega)
                have hl03 := hl0n.trans hl0
                have hlm3 := hlmn.trans hlm
                have hN163 := hN16e.trans hN16
                have hN133 : N3 13 (N3 16 0) = m := by rw [hN16e, e3o 13 _ (by decide) (by decide) (by decide) (by decide)]; exact hN13
                have hm3 : m < N3 66 (N3 16 0) := by rw [hN16e, e3o 66 _ (by decide) (by decide) (by decide) (by decide)]; exact hm
                have hr3 : N3 40 (N3 16 0) ≠ 0 := by rw [hN16e, e3o 40 _ (by decide) (by decide) (by decide) (by decide)]; exact hr
                have h143 : N3 14 (N3 16 0) = N 14 (N 16 0) + 1 := by rw [hN16e, hN3]; exact (up3_n (by omega)).trans up3_s
                have ht3n : ∀ key, key ≠ 3402 → key ≠ 3403 → key ≠ 1400 → t3 key = t2 key := fun key q1 q2 q3 => by rw [ht3]; unfold cd_trT; rw [up2_n q3, up2_n q2, up2_n q1]
                have hV3 : gc_V N3 t3 := hV2.keepN (fun key hk => ht3n key (by rintro rfl; revert hk; decide) (by rintro rfl; revert hk; decide) (by rintro rfl; revert hk; decide)) (fun d j hd hj => by rw [ht3n 3305 (by decide) (by decide) (by decide)]; exact hV2.r3305 hd hj) hN16e (fun k d hk => e3o k d (by omega) (by omega) (by omega) (by omega))
                have hk3 : ∃ k, t3 3305 (1024 * (N3 16 0) + m) = nI k ∧ N3 14 (N3 16 0) + k ≤ 600 := ⟨k - v, by rw [hN16e, ht3n 3305 (by decide) (by decide) (by decide)]; exact hvm, by rw [h143]; omega⟩
                have ht9 := (k4 a9 ha8 hU9).trans ht9
                have hWf := gc_W_G hWf hst k4 hn1
                have hst := gc_G_G hst k3 hn1
                have hU9 := gc_U_G hU9 k3 ha8
                have hn1 := Nat.le_trans hn1 k5
                have ha8 := Nat.lt_of_lt_of_le ha8 k5
                have hP := k2
                refine ga_sub [4, 5, 6] rfl ?_
                refine ga_lv (lv' := [(0, .ref (L3 0 0)), (1, .ref (L3 33 (1024 * (N3 16 0) + m))), (2, .ref a9)]) (by rw [hl0n, hlmn]) ?_
                revert hP ht9 hWf hn1 ha8 hst hU9
                clear k2 k3 k4 k5 hF hn
                generalize h4 = h
                generalize n4 = n
                intro hP ht9 hWf hn1 ha8 hst hU9
                refine ga_pop X dX1_match_95 rfl ?_
                refine ga_aload_n X 0 dX1_match_96 rfl rfl ?_
                refine ga_aload_n X 1 dX1_match_97 rfl rfl ?_
                refine ga_aload_n X 2 dX1_match_98 rfl rfl ?_
                refine ga_callV X Y (cm_bestFor _ X.tr G L3 N3 t3 m a9 sn hm3 h n n hP (Nat.le_refl _) hA9 hU9 ht9) wX1_372 (ci := 0) rfl hP.r0 ⟨Nat.le_of_ble_eq_true rfl, Nat.le_of_ble_eq_true rfl⟩ ⟨(by first | decide | omega | (dsimp only; omega)), (by first | decide | omega | (dsimp only; omega))⟩ rfl (Nat.le_of_ble_eq_true rfl) dX1_match_99 (fun v9 h3 n3 hq _ => ?_) (fun _ _ _ q _ => q.elim)
                obtain ⟨rfl, rfl, ht9, hq⟩ := hq
                have hP := hP.tempU (fun k i hl => hq _ (hU9 k i hl))
                have hWf : gc_W L0 N0 n1 h1 h3 := fun a ha hu => (hq a (by omega)).trans (hWf a ha hu)
                refine ga_astoreI X [(0, .ref (L3 0 0)), (1, .ref (L3 33 (1024 * (N3 16 0) + m))), (2, .ref a9)] dX1_match_102 rfl (by decide) rfl ?_
                refine ga_goto X (tgt := 12) dX1_match_103 (by decide) ?_
                refine ga_sub [0, 1, 2, 3] rfl ?_
                refine ga_widen (k2 := 1 + (61 - fu) * 13) (n2 := 60 + (61 - fu) * 970) (by first | decide | omega | (dsimp only; omega)) (by first | decide | omega | (dsimp only; omega)) ?_
                rw [eB] at hR
                exact ih _ _ L3 N3 t3 h3 n3 (by omega) (by omega) (by
                  by_cases z : cd_bestFor t3 N3 m sn = -1
                  · exact Or.inl z
                  · have z1 := bf_nz (by omega) z
                    have z2 := (bf_seen2 (by omega) z).1
                    exact Or.inr ⟨by omega, by omega⟩) hl03 hlm3 hN163 hN133 hm3 hr3 hV3 hk3 hR hP hn1 hWf hst ht9 hU9 ha8
  subst hL0; subst hN0; subst hτ0
  exact L12 61 _ _ L N τ h n9 (by decide) (by decide) (by
    by_cases z : cd_bestFor τ N m (fun _ => 0) = -1
    · exact Or.inl z
    · have z1 := bf_nz (by omega) z
      have z2 := (bf_seen2 (by omega) z).1
      exact Or.inr ⟨by omega, by omega⟩) rfl rfl rfl hm13 hm hr hV hk hR0 hP (by omega) hWf hst ht9 hU9 ha8
