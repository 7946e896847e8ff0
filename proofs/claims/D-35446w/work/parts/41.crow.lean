/-! CONTRACTS with a row beside the picture -/
set_option maxRecDepth 100000
/-- a row of three ints a is there too; it answers v, the heap stays -/
def gr_C (l : Launch) (G : ga_X) (y : MethodName) (b : ByteArray) (nL : Nat) (r : Option FieldType) (rm : Room) (as : List Value) (L N : gc_L) (τ : gm_S) (a : Nat) (x : va_E) (v : Option Value) : Prop :=
  ∀ (h1 : ga_H) (n0 n1 : Nat), gc_P G L N τ n0 h1 → n0 ≤ n1 → h1 a = some x → ga_C l G y b nL r rm as h1 n1 (fun v' h' n' => v' = v ∧ h' = h1 ∧ n' = n1) ga_no
theorem gr_start {l : Launch} {G : ga_X} {y : MethodName} {b : ByteArray} {nL : Nat} {r : Option FieldType} {rm : Room} {as : List Value} {L N : gc_L} {τ : gm_S} {a : Nat} {x : va_E} {v : Option Value} (own : String) (hl : l.stackTraces = false) (ho : y.cls = own) (hy : plainName own = true) (hL : (lg_sl as).length ≤ nL)
    (body : ∀ (Γ : ga_F) (h : ga_H) (n0 n : Nat), ga_l Γ = l → ga_E Γ G own b nL → ga_Y Γ G r (fun v' h' n' => v' = v ∧ h' = h ∧ n' = n) ga_no rm → gc_P G L N τ n0 h → n0 ≤ n → h a = some x → ga Γ G h n 0 0 0 (lv_args 0 as) []) : gr_C l G y b nL r rm as L N τ a x v := fun h1 n0 n1 hP hn ha =>
  ga_start hl (by rw [ho]; exact hy) hL (fun Γ e X Y _ _ => body Γ h1 n0 n1 e (ho ▸ X) Y hP hn ha)
/-- it returns where p holds, with the state τ'; otherwise it throws E0, the state being what it was -/
def gv_C (l : Launch) (G : ga_X) (y : MethodName) (b : ByteArray) (nL : Nat) (r : Option FieldType) (rm : Room) (as : List Value) (L N : gc_L) (τ : gm_S) (p : Prop) (E0 : String) (τ' : gm_S) : Prop :=
  ∀ (h1 : ga_H) (n0 n1 : Nat), gc_P G L N τ n0 h1 → n0 ≤ n1 → ga_C l G y b nL r rm as h1 n1 (fun v' h' n' => p ∧ v' = none ∧ n1 ≤ n' ∧ gc_P G L N τ' n0 h' ∧ gc_V1 L N n0 n1 h1 h') (fun E h' n' => ¬ p ∧ E = E0 ∧ n1 ≤ n' ∧ gc_P G L N τ n0 h' ∧ gc_V1 L N n0 n1 h1 h')
theorem gv_start {l : Launch} {G : ga_X} {y : MethodName} {b : ByteArray} {nL : Nat} {r : Option FieldType} {rm : Room} {as : List Value} {L N : gc_L} {τ τ' : gm_S} {p : Prop} {E0 : String} (own : String) (hl : l.stackTraces = false) (ho : y.cls = own) (hy : plainName own = true) (hL : (lg_sl as).length ≤ nL)
    (body : ∀ (Γ : ga_F) (h1 h : ga_H) (n0 n1 n : Nat), ga_l Γ = l → ga_E Γ G own b nL → ga_Y Γ G r (fun v' h' n' => p ∧ v' = none ∧ n1 ≤ n' ∧ gc_P G L N τ' n0 h' ∧ gc_V1 L N n0 n1 h1 h') (fun E h' n' => ¬ p ∧ E = E0 ∧ n1 ≤ n' ∧ gc_P G L N τ n0 h' ∧ gc_V1 L N n0 n1 h1 h') rm → gc_P G L N τ n0 h → n0 ≤ n → (∀ a, a < n1 → h a = h1 a) → n1 ≤ n → n0 ≤ n1 → (∀ x ∈ (ga_c Γ).exceptionTable.toList, False) → ga Γ G h n 0 0 0 (lv_args 0 as) []) : gv_C l G y b nL r rm as L N τ p E0 τ' := fun h1 n0 n1 hP hn =>
  ga_start hl (by rw [ho]; exact hy) hL (fun Γ e X Y _ hxt => body Γ h1 h1 n0 n1 n1 e (ho ▸ X) Y hP hn (fun _ _ => rfl) (Nat.le_refl _) hn hxt)
/-- with handlers: it answers v, the state becomes τ' -/
def gsW_C (l : Launch) (G : ga_X) (y : MethodName) (b : ByteArray) (nL : Nat) (r : Option FieldType) (hh : List (Nat × Nat × Nat × Nat)) (rm : Room) (as : List Value) (L N : gc_L) (τ : gm_S) (v : Option Value) (τ' : gm_S) : Prop :=
  ∀ (h1 : ga_H) (n0 n1 : Nat), gc_P G L N τ n0 h1 → n0 ≤ n1 → ga_CW l G y b nL r hh rm as h1 n1 (fun v' h' n' => v' = v ∧ n1 ≤ n' ∧ gc_P G L N τ' n0 h' ∧ gc_V1 L N n0 n1 h1 h') ga_no
theorem gsW_start {l : Launch} {G : ga_X} {y : MethodName} {b : ByteArray} {nL : Nat} {r : Option FieldType} {hh : List (Nat × Nat × Nat × Nat)} {rm : Room} {as : List Value} {L N : gc_L} {τ τ' : gm_S} {v : Option Value} (own : String) (hl : l.stackTraces = false) (ho : y.cls = own) (hy : plainName own = true) (hL : (lg_sl as).length ≤ nL)
    (body : ∀ (Γ : ga_F) (h1 h : ga_H) (n0 n1 n : Nat), ga_l Γ = l → ga_E Γ G own b nL → ga_Y Γ G r (fun v' h' n' => v' = v ∧ n1 ≤ n' ∧ gc_P G L N τ' n0 h' ∧ gc_V1 L N n0 n1 h1 h') ga_no rm → gc_P G L N τ n0 h → n0 ≤ n → (∀ a, a < n1 → h a = h1 a) → n1 ≤ n → n0 ≤ n1 → (ga_c Γ).exceptionTable.toList = tableOf hh → ga Γ G h n 0 0 0 (lv_args 0 as) []) : gsW_C l G y b nL r hh rm as L N τ v τ' := fun h1 n0 n1 hP hn =>
  ga_startW hl (by rw [ho]; exact hy) hL (fun Γ e X Y _ hxt => body Γ h1 h1 n0 n1 n1 e (ho ▸ X) Y hP hn (fun _ _ => rfl) (Nat.le_refl _) hn hxt)
/-- the picture doesn't own a -/
def gc_U (L N : gc_L) (a : Nat) : Prop := ∀ k i, gc_live N k i → L k i ≠ a
theorem gc_P.tempU {G : ga_X} {L N : gc_L} {τ : gm_S} {n : Nat} {h h' : ga_H} (hP : gc_P G L N τ n h) (hh : ∀ k i, gc_live N k i → h' (L k i) = h (L k i)) : gc_P G L N τ n h' := ⟨hP.1, fun k i hl => by
  obtain ⟨h1, h2, h3, x, h4, h5⟩ := hP.2 k i hl
  exact ⟨h1, h2, h3, x, (hh k i hl).trans h4, h5⟩⟩
theorem gb_up {G : ga_X} {L N : gc_L} {τ : gm_S} {n0 a : Nat} {h : ga_H} {x : va_E} {P : ga_H → Prop} (hP : gc_P G L N τ n0 h) (h0 : gc_U L N a) (kk : ∀ h' : ga_H, gc_P G L N τ n0 h' → h' a = some x → (∀ b, b ≠ a → h' b = h b) → P h') : P (ga_up h a x) :=
  kk _ (hP.tempU (fun k i hl => ga_up_n (h0 k i hl))) ga_up_s (fun b hb => ga_up_n hb)
/-- bestFor: a: the row of those seen -/
def gb_C (l : Launch) (G : ga_X) (y : MethodName) (b : ByteArray) (nL : Nat) (r : Option FieldType) (rm : Room) (as : List Value) (L N : gc_L) (τ : gm_S) (a : Nat) (sn sn' : Nat → Int32) (v : Value) : Prop :=
  ∀ (h1 : ga_H) (n0 n1 : Nat), gc_P G L N τ n0 h1 → n0 ≤ n1 → G.2.1 ≤ a → gc_U L N a → h1 a = some (ga_Z G 60 sn) → ga_C l G y b nL r rm as h1 n1 (fun v' h' n' => v' = some v ∧ n' = n1 ∧ h' a = some (ga_Z G 60 sn') ∧ ∀ b, b ≠ a → h' b = h1 b) ga_no
theorem gb_start {l : Launch} {G : ga_X} {y : MethodName} {b : ByteArray} {nL : Nat} {r : Option FieldType} {rm : Room} {as : List Value} {L N : gc_L} {τ : gm_S} {a : Nat} {sn sn' : Nat → Int32} {v : Value} (own : String) (hl : l.stackTraces = false) (ho : y.cls = own) (hy : plainName own = true) (hL : (lg_sl as).length ≤ nL)
    (body : ∀ (Γ : ga_F) (h1 : ga_H) (n0 n : Nat), ga_l Γ = l → ga_E Γ G own b nL → ga_Y Γ G r (fun v' h' n' => v' = some v ∧ n' = n ∧ h' a = some (ga_Z G 60 sn') ∧ ∀ b, b ≠ a → h' b = h1 b) ga_no rm → gc_P G L N τ n0 h1 → n0 ≤ n → G.2.1 ≤ a → gc_U L N a → h1 a = some (ga_Z G 60 sn) → ga Γ G h1 n 0 0 0 (lv_args 0 as) []) : gb_C l G y b nL r rm as L N τ a sn sn' v := fun h1 n0 n1 hP hn hA h0 ha =>
  ga_start hl (by rw [ho]; exact hy) hL (fun Γ e X Y _ _ => body Γ h1 n0 n1 e (ho ▸ X) Y hP hn hA h0 ha)
