/-! CONTRACTS of GridMarket's methods that change nothing old -/
set_option maxRecDepth 100000
/-- it answers v and leaves all old cells -/
def gq_C (l : Launch) (G : ga_X) (y : MethodName) (b : ByteArray) (nL : Nat) (r : Option FieldType) (rm : Room) (as : List Value) (L N : gc_L) (τ : gm_S) (v : Value) : Prop :=
  ∀ (h1 : ga_H) (n0 n1 : Nat), gc_P G L N τ n0 h1 → n0 ≤ n1 → ga_C l G y b nL r rm as h1 n1 (fun v' h' n' => v' = some v ∧ n1 ≤ n' ∧ ∀ a, a < n1 → h' a = h1 a) ga_no
/-- it answers v and leaves the heap as it is; or throws E (none: it doesn't) -/
def gh_C (l : Launch) (G : ga_X) (y : MethodName) (b : ByteArray) (nL : Nat) (r : Option FieldType) (rm : Room) (as : List Value) (L N : gc_L) (τ : gm_S) (v : Option Value) : Prop :=
  ∀ (h1 : ga_H) (n0 n1 : Nat), gc_P G L N τ n0 h1 → n0 ≤ n1 → ga_C l G y b nL r rm as h1 n1 (fun v' h' n' => v' = v ∧ h' = h1 ∧ n' = n1) ga_no
theorem gq_start {l : Launch} {G : ga_X} {y : MethodName} {b : ByteArray} {nL : Nat} {r : Option FieldType} {rm : Room} {as : List Value} {L N : gc_L} {τ : gm_S} {v : Value} (own : String) (hl : l.stackTraces = false) (ho : y.cls = own) (hy : plainName own = true) (hL : (lg_sl as).length ≤ nL)
    (body : ∀ (Γ : ga_F) (h1 h : ga_H) (n0 n1 n : Nat), ga_l Γ = l → ga_E Γ G own b nL → ga_Y Γ G r (fun v' h' n' => v' = some v ∧ n1 ≤ n' ∧ ∀ a, a < n1 → h' a = h1 a) ga_no rm → gc_P G L N τ n0 h → n0 ≤ n → (∀ a, a < n1 → h a = h1 a) → n1 ≤ n → n0 ≤ n1 → ga Γ G h n 0 0 0 (lv_args 0 as) []) : gq_C l G y b nL r rm as L N τ v := fun h1 n0 n1 hP hn =>
  ga_start hl (by rw [ho]; exact hy) hL (fun Γ e X Y _ _ => body Γ h1 h1 n0 n1 n1 e (ho ▸ X) Y hP hn (fun _ _ => rfl) (Nat.le_refl _) hn)
theorem gh_start {l : Launch} {G : ga_X} {y : MethodName} {b : ByteArray} {nL : Nat} {r : Option FieldType} {rm : Room} {as : List Value} {L N : gc_L} {τ : gm_S} {v : Option Value} (own : String) (hl : l.stackTraces = false) (ho : y.cls = own) (hy : plainName own = true) (hL : (lg_sl as).length ≤ nL)
    (body : ∀ (Γ : ga_F) (h : ga_H) (n0 n : Nat), ga_l Γ = l → ga_E Γ G own b nL → ga_Y Γ G r (fun v' h' n' => v' = v ∧ h' = h ∧ n' = n) ga_no rm → gc_P G L N τ n0 h → n0 ≤ n → ga Γ G h n 0 0 0 (lv_args 0 as) []) : gh_C l G y b nL r rm as L N τ v := fun h1 n0 n1 hP hn =>
  ga_start hl (by rw [ho]; exact hy) hL (fun Γ e X Y _ _ => body Γ h1 n0 n1 e (ho ▸ X) Y hP hn)
theorem gq_al {G : ga_X} {L N : gc_L} {τ : gm_S} {n0 n n1 : Nat} {h h1 : ga_H} {x : va_E} {P : Nat → ga_H → Nat → Prop} (hP : gc_P G L N τ n0 h) (hn : n0 ≤ n) (hF : ∀ a, a < n1 → h a = h1 a) (hn1 : n1 ≤ n)
    (kk : ∀ (t : Nat) (h' : ga_H) (n' : Nat), gc_P G L N τ n0 h' → n0 ≤ n' → (∀ a, a < n1 → h' a = h1 a) → n1 ≤ n' → (∀ a, a < n → h' a = h a) → h' t = some x → t < n' → n1 ≤ t → n0 ≤ t → t = n → P t h' n') : P n (ga_up h n x) (n + 1) :=
  kk n _ _ (hP.temp (fun a ha => ga_up_n (by omega))) (by omega) (fun a ha => (ga_up_n (by omega)).trans (hF a ha)) (by omega) (fun a ha => ga_up_n (by omega)) ga_up_s (by omega) hn1 hn rfl
theorem gq_up {G : ga_X} {L N : gc_L} {τ : gm_S} {n0 n1 : Nat} {h h1 : ga_H} {x : va_E} {t : Nat} {P : ga_H → Prop} (hP : gc_P G L N τ n0 h) (hF : ∀ a, a < n1 → h a = h1 a) (h0 : n0 ≤ t) (h2 : n1 ≤ t)
    (kk : ∀ h' : ga_H, gc_P G L N τ n0 h' → (∀ a, a < n1 → h' a = h1 a) → h' t = some x → (∀ a, a ≠ t → h' a = h a) → P h') : P (ga_up h t x) :=
  kk _ (hP.temp (fun a ha => ga_up_n (by omega))) (fun a ha => (ga_up_n (by omega)).trans (hF a ha)) ga_up_s (fun a ha => ga_up_n ha)
theorem gc_P.G {G : ga_X} {L N : gc_L} {τ : gm_S} {n : Nat} {h : ga_H} (hP : gc_P G L N τ n h) : G.2.1 ≤ n := Nat.le_of_lt (Nat.lt_of_le_of_lt (hP.A (k := 0) (i := 0) rfl) (hP.lt (k := 0) (i := 0) rfl))
theorem gc_P.n10 {G : ga_X} {L N : gc_L} {τ : gm_S} {n : Nat} {h : ga_H} (hP : gc_P G L N τ n h) (d : Nat) : N 10 d ≤ 40 := (hP.1.2.2.2.2.1 d).1
theorem gc_P.n11 {G : ga_X} {L N : gc_L} {τ : gm_S} {n : Nat} {h : ga_H} (hP : gc_P G L N τ n h) (d : Nat) : N 11 d ≤ 5 := (hP.1.2.2.2.2.1 d).2.1
theorem gc_P.n12 {G : ga_X} {L N : gc_L} {τ : gm_S} {n : Nat} {h : ga_H} (hP : gc_P G L N τ n h) (d : Nat) : N 12 d ≤ 20 := (hP.1.2.2.2.2.1 d).2.2.1
theorem gc_P.n13 {G : ga_X} {L N : gc_L} {τ : gm_S} {n : Nat} {h : ga_H} (hP : gc_P G L N τ n h) (d : Nat) : N 13 d ≤ 60 := (hP.1.2.2.2.2.1 d).2.2.2.1
theorem gc_P.n14 {G : ga_X} {L N : gc_L} {τ : gm_S} {n : Nat} {h : ga_H} (hP : gc_P G L N τ n h) (d : Nat) : N 14 d ≤ 600 := (hP.1.2.2.2.2.1 d).2.2.2.2.1
theorem gc_P.n15 {G : ga_X} {L N : gc_L} {τ : gm_S} {n : Nat} {h : ga_H} (hP : gc_P G L N τ n h) (d : Nat) : N 15 d ≤ 30 := (hP.1.2.2.2.2.1 d).2.2.2.2.2.1
theorem gc_P.n16 {G : ga_X} {L N : gc_L} {τ : gm_S} {n : Nat} {h : ga_H} (hP : gc_P G L N τ n h) : N 16 0 ≤ 9 := hP.1.1
abbrev cx (f : Int32) : Nat := f.toNatClampNeg
theorem cx_e {f K : Int32} (h : 0 ≤ f ∧ f ≤ K) : f = nI (cx f) := by
  obtain ⟨j, hj, e⟩ := nI_of (Int32.not_lt.mpr h.1)
  rw [e]; unfold cx; rw [nI_clamp hj]
theorem cx_lt {f K : Int32} (h : 0 ≤ f ∧ f ≤ K) {m : Nat} (hm : K.toInt < m) (hm2 : m ≤ 2147483648) : cx f < m := by
  obtain ⟨j, hj, e⟩ := nI_of (Int32.not_lt.mpr h.1)
  have h2 := Int32.le_iff_toInt_le.mp h.2
  rw [e, nI_toInt hj] at h2
  rw [e]; unfold cx; rw [nI_clamp hj]
  omega
/-- ranges -/
def gc_V (N : gc_L) (τ : gm_S) : Prop := (∀ d j, d ≤ N 16 0 → j < N 10 d → (0 ≤ τ 3000 (1024 * d + j) ∧ τ 3000 (1024 * d + j) ≤ 5) ∧ (0 ≤ τ 3001 (1024 * d + j) ∧ τ 3001 (1024 * d + j) ≤ 2) ∧ (0 ≤ τ 3002 (1024 * d + j) ∧ τ 3002 (1024 * d + j) ≤ 3) ∧ (0 ≤ τ 3003 (1024 * d + j) ∧ τ 3003 (1024 * d + j) ≤ 1) ∧ (0 ≤ τ 3004 (1024 * d + j) ∧ τ 3004 (1024 * d + j) ≤ 200) ∧ (0 ≤ τ 3005 (1024 * d + j) ∧ τ 3005 (1024 * d + j) ≤ 10)) ∧ (∀ d j, d ≤ N 16 0 → j < N 11 d → (0 ≤ τ 3100 (1024 * d + j) ∧ τ 3100 (1024 * d + j) ≤ 5) ∧ (0 ≤ τ 3101 (1024 * d + j) ∧ τ 3101 (1024 * d + j) ≤ 2) ∧ (0 ≤ τ 3102 (1024 * d + j) ∧ τ 3102 (1024 * d + j) ≤ 15) ∧ (0 ≤ τ 3103 (1024 * d + j) ∧ τ 3103 (1024 * d + j) ≤ 1) ∧ (0 ≤ τ 3104 (1024 * d + j) ∧ τ 3104 (1024 * d + j) ≤ 200) ∧ (0 ≤ τ 3105 (1024 * d + j) ∧ τ 3105 (1024 * d + j) ≤ 10)) ∧ (∀ d j, d ≤ N 16 0 → j < N 12 d → (0 ≤ τ 3200 (1024 * d + j) ∧ τ 3200 (1024 * d + j) ≤ 5) ∧ (0 ≤ τ 3201 (1024 * d + j) ∧ τ 3201 (1024 * d + j) ≤ 2) ∧ (0 ≤ τ 3202 (1024 * d + j) ∧ τ 3202 (1024 * d + j) ≤ 2) ∧ (0 ≤ τ 3203 (1024 * d + j) ∧ τ 3203 (1024 * d + j) ≤ 10) ∧ (0 ≤ τ 3204 (1024 * d + j) ∧ τ 3204 (1024 * d + j) ≤ 500)) ∧ (∀ d j, d ≤ N 16 0 → j < N 66 d → (0 ≤ τ 3300 (1024 * d + j) ∧ τ 3300 (1024 * d + j) ≤ 5) ∧ (0 ≤ τ 3301 (1024 * d + j) ∧ τ 3301 (1024 * d + j) ≤ 2) ∧ (0 ≤ τ 3302 (1024 * d + j) ∧ τ 3302 (1024 * d + j) ≤ 3) ∧ (0 ≤ τ 3303 (1024 * d + j) ∧ τ 3303 (1024 * d + j) ≤ 1) ∧ (0 ≤ τ 3304 (1024 * d + j) ∧ τ 3304 (1024 * d + j) ≤ 300) ∧ (0 ≤ τ 3305 (1024 * d + j) ∧ τ 3305 (1024 * d + j) ≤ 10)) ∧ (∀ d j, d ≤ N 16 0 → j < N 15 d → (0 ≤ τ 3500 (1024 * d + j) ∧ τ 3500 (1024 * d + j) ≤ 5) ∧ (0 ≤ τ 3501 (1024 * d + j) ∧ τ 3501 (1024 * d + j) ≤ 3) ∧ (0 ≤ τ 3502 (1024 * d + j) ∧ τ 3502 (1024 * d + j) ≤ 1) ∧ (0 ≤ τ 3503 (1024 * d + j) ∧ τ 3503 (1024 * d + j) ≤ 300) ∧ (0 ≤ τ 3504 (1024 * d + j) ∧ τ 3504 (1024 * d + j) ≤ 10)) ∧ (∀ j, j < 3 → (0 ≤ τ 300 j ∧ τ 300 j ≤ 10))
theorem gc_V.r3000 {N : gc_L} {τ : gm_S} (hV : gc_V N τ) {d j : Nat} (hd : d ≤ N 16 0) (hj : j < N 10 d) : 0 ≤ τ 3000 (1024 * d + j) ∧ τ 3000 (1024 * d + j) ≤ 5 := (hV.1 d j hd hj).1
theorem gc_V.r3001 {N : gc_L} {τ : gm_S} (hV : gc_V N τ) {d j : Nat} (hd : d ≤ N 16 0) (hj : j < N 10 d) : 0 ≤ τ 3001 (1024 * d + j) ∧ τ 3001 (1024 * d + j) ≤ 2 := (hV.1 d j hd hj).2.1
theorem gc_V.r3002 {N : gc_L} {τ : gm_S} (hV : gc_V N τ) {d j : Nat} (hd : d ≤ N 16 0) (hj : j < N 10 d) : 0 ≤ τ 3002 (1024 * d + j) ∧ τ 3002 (1024 * d + j) ≤ 3 := (hV.1 d j hd hj).2.2.1
theorem gc_V.r3003 {N : gc_L} {τ : gm_S} (hV : gc_V N τ) {d j : Nat} (hd : d ≤ N 16 0) (hj : j < N 10 d) : 0 ≤ τ 3003 (1024 * d + j) ∧ τ 3003 (1024 * d + j) ≤ 1 := (hV.1 d j hd hj).2.2.2.1
theorem gc_V.r3004 {N : gc_L} {τ : gm_S} (hV : gc_V N τ) {d j : Nat} (hd : d ≤ N 16 0) (hj : j < N 10 d) : 0 ≤ τ 3004 (1024 * d + j) ∧ τ 3004 (1024 * d + j) ≤ 200 := (hV.1 d j hd hj).2.2.2.2.1
theorem gc_V.r3005 {N : gc_L} {τ : gm_S} (hV : gc_V N τ) {d j : Nat} (hd : d ≤ N 16 0) (hj : j < N 10 d) : 0 ≤ τ 3005 (1024 * d + j) ∧ τ 3005 (1024 * d + j) ≤ 10 := (hV.1 d j hd hj).2.2.2.2.2
theorem gc_V.r3100 {N : gc_L} {τ : gm_S} (hV : gc_V N τ) {d j : Nat} (hd : d ≤ N 16 0) (hj : j < N 11 d) : 0 ≤ τ 3100 (1024 * d + j) ∧ τ 3100 (1024 * d + j) ≤ 5 := (hV.2.1 d j hd hj).1
theorem gc_V.r3101 {N : gc_L} {τ : gm_S} (hV : gc_V N τ) {d j : Nat} (hd : d ≤ N 16 0) (hj : j < N 11 d) : 0 ≤ τ 3101 (1024 * d + j) ∧ τ 3101 (1024 * d + j) ≤ 2 := (hV.2.1 d j hd hj).2.1
theorem gc_V.r3102 {N : gc_L} {τ : gm_S} (hV : gc_V N τ) {d j : Nat} (hd : d ≤ N 16 0) (hj : j < N 11 d) : 0 ≤ τ 3102 (1024 * d + j) ∧ τ 3102 (1024 * d + j) ≤ 15 := (hV.2.1 d j hd hj).2.2.1
theorem gc_V.r3103 {N : gc_L} {τ : gm_S} (hV : gc_V N τ) {d j : Nat} (hd : d ≤ N 16 0) (hj : j < N 11 d) : 0 ≤ τ 3103 (1024 * d + j) ∧ τ 3103 (1024 * d + j) ≤ 1 := (hV.2.1 d j hd hj).2.2.2.1
theorem gc_V.r3104 {N : gc_L} {τ : gm_S} (hV : gc_V N τ) {d j : Nat} (hd : d ≤ N 16 0) (hj : j < N 11 d) : 0 ≤ τ 3104 (1024 * d + j) ∧ τ 3104 (1024 * d + j) ≤ 200 := (hV.2.1 d j hd hj).2.2.2.2.1
theorem gc_V.r3105 {N : gc_L} {τ : gm_S} (hV : gc_V N τ) {d j : Nat} (hd : d ≤ N 16 0) (hj : j < N 11 d) : 0 ≤ τ 3105 (1024 * d + j) ∧ τ 3105 (1024 * d + j) ≤ 10 := (hV.2.1 d j hd hj).2.2.2.2.2
theorem gc_V.r3200 {N : gc_L} {τ : gm_S} (hV : gc_V N τ) {d j : Nat} (hd : d ≤ N 16 0) (hj : j < N 12 d) : 0 ≤ τ 3200 (1024 * d + j) ∧ τ 3200 (1024 * d + j) ≤ 5 := (hV.2.2.1 d j hd hj).1
theorem gc_V.r3201 {N : gc_L} {τ : gm_S} (hV : gc_V N τ) {d j : Nat} (hd : d ≤ N 16 0) (hj : j < N 12 d) : 0 ≤ τ 3201 (1024 * d + j) ∧ τ 3201 (1024 * d + j) ≤ 2 := (hV.2.2.1 d j hd hj).2.1
theorem gc_V.r3202 {N : gc_L} {τ : gm_S} (hV : gc_V N τ) {d j : Nat} (hd : d ≤ N 16 0) (hj : j < N 12 d) : 0 ≤ τ 3202 (1024 * d + j) ∧ τ 3202 (1024 * d + j) ≤ 2 := (hV.2.2.1 d j hd hj).2.2.1
theorem gc_V.r3203 {N : gc_L} {τ : gm_S} (hV : gc_V N τ) {d j : Nat} (hd : d ≤ N 16 0) (hj : j < N 12 d) : 0 ≤ τ 3203 (1024 * d + j) ∧ τ 3203 (1024 * d + j) ≤ 10 := (hV.2.2.1 d j hd hj).2.2.2.1
theorem gc_V.r3204 {N : gc_L} {τ : gm_S} (hV : gc_V N τ) {d j : Nat} (hd : d ≤ N 16 0) (hj : j < N 12 d) : 0 ≤ τ 3204 (1024 * d + j) ∧ τ 3204 (1024 * d + j) ≤ 500 := (hV.2.2.1 d j hd hj).2.2.2.2
theorem gc_V.r3300 {N : gc_L} {τ : gm_S} (hV : gc_V N τ) {d j : Nat} (hd : d ≤ N 16 0) (hj : j < N 66 d) : 0 ≤ τ 3300 (1024 * d + j) ∧ τ 3300 (1024 * d + j) ≤ 5 := (hV.2.2.2.1 d j hd hj).1
theorem gc_V.r3301 {N : gc_L} {τ : gm_S} (hV : gc_V N τ) {d j : Nat} (hd : d ≤ N 16 0) (hj : j < N 66 d) : 0 ≤ τ 3301 (1024 * d + j) ∧ τ 3301 (1024 * d + j) ≤ 2 := (hV.2.2.2.1 d j hd hj).2.1
theorem gc_V.r3302 {N : gc_L} {τ : gm_S} (hV : gc_V N τ) {d j : Nat} (hd : d ≤ N 16 0) (hj : j < N 66 d) : 0 ≤ τ 3302 (1024 * d + j) ∧ τ 3302 (1024 * d + j) ≤ 3 := (hV.2.2.2.1 d j hd hj).2.2.1
theorem gc_V.r3303 {N : gc_L} {τ : gm_S} (hV : gc_V N τ) {d j : Nat} (hd : d ≤ N 16 0) (hj : j < N 66 d) : 0 ≤ τ 3303 (1024 * d + j) ∧ τ 3303 (1024 * d + j) ≤ 1 := (hV.2.2.2.1 d j hd hj).2.2.2.1
theorem gc_V.r3304 {N : gc_L} {τ : gm_S} (hV : gc_V N τ) {d j : Nat} (hd : d ≤ N 16 0) (hj : j < N 66 d) : 0 ≤ τ 3304 (1024 * d + j) ∧ τ 3304 (1024 * d + j) ≤ 300 := (hV.2.2.2.1 d j hd hj).2.2.2.2.1
theorem gc_V.r3305 {N : gc_L} {τ : gm_S} (hV : gc_V N τ) {d j : Nat} (hd : d ≤ N 16 0) (hj : j < N 66 d) : 0 ≤ τ 3305 (1024 * d + j) ∧ τ 3305 (1024 * d + j) ≤ 10 := (hV.2.2.2.1 d j hd hj).2.2.2.2.2
theorem gc_V.r3500 {N : gc_L} {τ : gm_S} (hV : gc_V N τ) {d j : Nat} (hd : d ≤ N 16 0) (hj : j < N 15 d) : 0 ≤ τ 3500 (1024 * d + j) ∧ τ 3500 (1024 * d + j) ≤ 5 := (hV.2.2.2.2.1 d j hd hj).1
theorem gc_V.r3501 {N : gc_L} {τ : gm_S} (hV : gc_V N τ) {d j : Nat} (hd : d ≤ N 16 0) (hj : j < N 15 d) : 0 ≤ τ 3501 (1024 * d + j) ∧ τ 3501 (1024 * d + j) ≤ 3 := (hV.2.2.2.2.1 d j hd hj).2.1
theorem gc_V.r3502 {N : gc_L} {τ : gm_S} (hV : gc_V N τ) {d j : Nat} (hd : d ≤ N 16 0) (hj : j < N 15 d) : 0 ≤ τ 3502 (1024 * d + j) ∧ τ 3502 (1024 * d + j) ≤ 1 := (hV.2.2.2.2.1 d j hd hj).2.2.1
theorem gc_V.r3503 {N : gc_L} {τ : gm_S} (hV : gc_V N τ) {d j : Nat} (hd : d ≤ N 16 0) (hj : j < N 15 d) : 0 ≤ τ 3503 (1024 * d + j) ∧ τ 3503 (1024 * d + j) ≤ 300 := (hV.2.2.2.2.1 d j hd hj).2.2.2.1
theorem gc_V.r3504 {N : gc_L} {τ : gm_S} (hV : gc_V N τ) {d j : Nat} (hd : d ≤ N 16 0) (hj : j < N 15 d) : 0 ≤ τ 3504 (1024 * d + j) ∧ τ 3504 (1024 * d + j) ≤ 10 := (hV.2.2.2.2.1 d j hd hj).2.2.2.2
theorem gc_V.r300 {N : gc_L} {τ : gm_S} (hV : gc_V N τ) {j : Nat} (hj : j < 3) : 0 ≤ τ 300 j ∧ τ 300 j ≤ 10 := hV.2.2.2.2.2 j hj
/-- it answers a new row of M ints f -/
def gqa_C (l : Launch) (G : ga_X) (y : MethodName) (b : ByteArray) (nL : Nat) (r : Option FieldType) (rm : Room) (as : List Value) (L N : gc_L) (τ : gm_S) (M : Nat) (f : Nat → Int32) : Prop :=
  ∀ (h1 : ga_H) (n0 n1 : Nat), gc_P G L N τ n0 h1 → n0 ≤ n1 → ga_C l G y b nL r rm as h1 n1 (fun v' h' n' => ∃ t : Nat, v' = some (.ref t) ∧ n1 ≤ t ∧ t < n' ∧ h' t = some (ga_I G M f) ∧ n1 ≤ n' ∧ ∀ a, a < n1 → h' a = h1 a) ga_no
theorem gqa_start {l : Launch} {G : ga_X} {y : MethodName} {b : ByteArray} {nL : Nat} {r : Option FieldType} {rm : Room} {as : List Value} {L N : gc_L} {τ : gm_S} {M : Nat} {f : Nat → Int32} (own : String) (hl : l.stackTraces = false) (ho : y.cls = own) (hy : plainName own = true) (hL : (lg_sl as).length ≤ nL)
    (body : ∀ (Γ : ga_F) (h1 h : ga_H) (n0 n1 n : Nat), ga_l Γ = l → ga_E Γ G own b nL → ga_Y Γ G r (fun v' h' n' => ∃ t : Nat, v' = some (.ref t) ∧ n1 ≤ t ∧ t < n' ∧ h' t = some (ga_I G M f) ∧ n1 ≤ n' ∧ ∀ a, a < n1 → h' a = h1 a) ga_no rm → gc_P G L N τ n0 h → n0 ≤ n → (∀ a, a < n1 → h a = h1 a) → n1 ≤ n → n0 ≤ n1 → ga Γ G h n 0 0 0 (lv_args 0 as) []) : gqa_C l G y b nL r rm as L N τ M f := fun h1 n0 n1 hP hn =>
  ga_start hl (by rw [ho]; exact hy) hL (fun Γ e X Y _ _ => body Γ h1 h1 n0 n1 n1 e (ho ▸ X) Y hP hn (fun _ _ => rfl) (Nat.le_refl _) hn)
