/-! METHODS of GridMarket's that write into old cells -/
set_option maxRecDepth 100000
/-- what the picture doesn't own is as it was -/
def gc_W (L N : gc_L) (n1 : Nat) (h1 h : ga_H) : Prop := ∀ a, a < n1 → (∀ k i, gc_live N k i → L k i ≠ a) → h a = h1 a
def gs_C (l : Launch) (G : ga_X) (y : MethodName) (b : ByteArray) (nL : Nat) (r : Option FieldType) (rm : Room) (as : List Value) (L N : gc_L) (τ : gm_S) (thr : Int32) (v : Option Value) (τ' : gm_S) : Prop :=
  ∀ (h1 : ga_H) (n0 n1 : Nat), gc_P G L N τ n0 h1 → n0 ≤ n1 → ga_C l G y b nL r rm as h1 n1 (fun v' h' n' => thr = 0 ∧ v' = v ∧ n1 ≤ n' ∧ gc_P G L N τ' n0 h' ∧ gc_W L N n1 h1 h' ∧ ∀ a, n0 ≤ a → a < n1 → h' a = h1 a) (fun E h' n' => thr ≠ 0 ∧ E = ge_es thr ∧ n1 ≤ n' ∧ ∀ a, a < n1 → h' a = h1 a)
theorem gs_start {l : Launch} {G : ga_X} {y : MethodName} {b : ByteArray} {nL : Nat} {r : Option FieldType} {rm : Room} {as : List Value} {L N : gc_L} {τ τ' : gm_S} {thr : Int32} {v : Option Value} (own : String) (hl : l.stackTraces = false) (ho : y.cls = own) (hy : plainName own = true) (hL : (lg_sl as).length ≤ nL)
    (body : ∀ (Γ : ga_F) (h1 h : ga_H) (n0 n1 n : Nat), ga_l Γ = l → ga_E Γ G own b nL → ga_Y Γ G r (fun v' h' n' => thr = 0 ∧ v' = v ∧ n1 ≤ n' ∧ gc_P G L N τ' n0 h' ∧ gc_W L N n1 h1 h' ∧ ∀ a, n0 ≤ a → a < n1 → h' a = h1 a) (fun E h' n' => thr ≠ 0 ∧ E = ge_es thr ∧ n1 ≤ n' ∧ ∀ a, a < n1 → h' a = h1 a) rm → gc_P G L N τ n0 h → n0 ≤ n → (∀ a, a < n1 → h a = h1 a) → n1 ≤ n → n0 ≤ n1 → (∀ x ∈ (ga_c Γ).exceptionTable.toList, False) → ga Γ G h n 0 0 0 (lv_args 0 as) []) : gs_C l G y b nL r rm as L N τ thr v τ' := fun h1 n0 n1 hP hn =>
  ga_start hl (by rw [ho]; exact hy) hL (fun Γ e X Y _ hxt => body Γ h1 h1 n0 n1 n1 e (ho ▸ X) Y hP hn (fun _ _ => rfl) (Nat.le_refl _) hn hxt)
section GSW
variable {G : ga_X} {L N : gc_L} {τ τ' : gm_S} {n0 n n1 : Nat} {h h1 : ga_H}
/-- the weak frame with what lies between n0 and n1 -/
def gc_V1 (L N : gc_L) (n0 n1 : Nat) (h1 h : ga_H) : Prop := gc_W L N n1 h1 h ∧ ∀ a, n0 ≤ a → a < n1 → h a = h1 a
theorem gc_V1.of (hF : ∀ a, a < n1 → h a = h1 a) : gc_V1 L N n0 n1 h1 h := ⟨fun a ha _ => hF a ha, fun a _ ha => hF a ha⟩
theorem gs_w {P : ga_H → Prop} {k i : Nat} {x : va_E} (hP' : gc_P G L N τ' n0 (ga_up h (L k i) x)) (hl : gc_live N k i) (hF : gc_V1 L N n0 n1 h1 h)
    (kk : ∀ h' : ga_H, gc_P G L N τ' n0 h' → gc_V1 L N n0 n1 h1 h' → (∀ a, a ≠ L k i → h' a = h a) → P h') : P (ga_up h (L k i) x) :=
  kk _ hP' ⟨fun a ha hu => (ga_up_n (Ne.symm (hu k i hl))).trans (hF.1 a ha hu), fun a h0 ha => (ga_up_n (by have := hP'.lt hl; omega)).trans (hF.2 a h0 ha)⟩ (fun a ha => ga_up_n ha)
theorem gs_al {x : va_E} {P : Nat → ga_H → Nat → Prop} (hP : gc_P G L N τ n0 h) (hn : n0 ≤ n) (hF : gc_V1 L N n0 n1 h1 h) (hn1 : n1 ≤ n)
    (kk : ∀ (t : Nat) (h' : ga_H) (n' : Nat), gc_P G L N τ n0 h' → n0 ≤ n' → gc_V1 L N n0 n1 h1 h' → n1 ≤ n' → (∀ a, a < n → h' a = h a) → h' t = some x → t < n' → n1 ≤ t → n0 ≤ t → t = n → P t h' n') : P n (ga_up h n x) (n + 1) :=
  kk n _ _ (hP.temp (fun a ha => ga_up_n (by omega))) (by omega) ⟨fun a ha hu => (ga_up_n (by omega)).trans (hF.1 a ha hu), fun a h0 ha => (ga_up_n (by omega)).trans (hF.2 a h0 ha)⟩ (by omega) (fun a ha => ga_up_n (by omega)) ga_up_s (by omega) hn1 hn rfl
theorem gs_up {x : va_E} {t : Nat} {P : ga_H → Prop} (hP : gc_P G L N τ n0 h) (hF : gc_V1 L N n0 n1 h1 h) (h0 : n0 ≤ t) (h2 : n1 ≤ t)
    (kk : ∀ h' : ga_H, gc_P G L N τ n0 h' → gc_V1 L N n0 n1 h1 h' → h' t = some x → (∀ a, a ≠ t → h' a = h a) → P h') : P (ga_up h t x) :=
  kk _ (hP.temp (fun a ha => ga_up_n (by omega))) ⟨fun a ha hu => (ga_up_n (by omega)).trans (hF.1 a ha hu), fun a h0 ha => (ga_up_n (by omega)).trans (hF.2 a h0 ha)⟩ ga_up_s (fun a ha => ga_up_n ha)
theorem gc_V1.call {h2 : ga_H} (hF : gc_V1 L N n0 n1 h1 h) (hq : ∀ a, a < n → h2 a = h a) (hn : n1 ≤ n) : gc_V1 L N n0 n1 h1 h2 := ⟨fun a ha hu => (hq a (by omega)).trans (hF.1 a ha hu), fun a h0 ha => (hq a (by omega)).trans (hF.2 a h0 ha)⟩
theorem gc_V1.callW {h2 : ga_H} (hF : gc_V1 L N n0 n1 h1 h) (hq : gc_W L N n h h2) (hq2 : ∀ a, n0 ≤ a → a < n → h2 a = h a) (hn : n1 ≤ n) : gc_V1 L N n0 n1 h1 h2 := ⟨fun a ha hu => (hq a (by omega) hu).trans (hF.1 a ha hu), fun a h0 ha => (hq2 a h0 (by omega)).trans (hF.2 a h0 ha)⟩
theorem gc_row {key w b m j : Nat} {v : Int32} {f : Nat → Int32} (hf : ∀ z, z < m → f z = τ key (w * b + z)) : ∀ z, z < m → upd f j v z = up2 τ key (w * b + j) v key (w * b + z) := by
  intro z hz
  rw [up2_at]
  unfold upd
  by_cases e : z = j
  · rw [if_pos e, if_pos (by rw [e])]
  · rw [if_neg e, if_neg (by omega)]
    exact hf z hz
end GSW
