/-! CONTRACTS of GridMarket's questions -/
set_option maxRecDepth 100000
def ge_es (c : Int32) : String := if c = 1 then "java/lang/IndexOutOfBoundsException" else if c = 2 then "java/lang/IllegalArgumentException" else "java/lang/IllegalStateException"
/-- thr: what it throws (0: nothing); v: its answer -/
def gt_C (l : Launch) (G : ga_X) (y : MethodName) (b : ByteArray) (nL : Nat) (r : Option FieldType) (rm : Room) (as : List Value) (L N : gc_L) (τ : gm_S) (thr : Int32) (v : Option Value) : Prop :=
  ∀ (h1 : ga_H) (n0 n1 : Nat), gc_P G L N τ n0 h1 → n0 ≤ n1 → ga_C l G y b nL r rm as h1 n1 (fun v' h' n' => thr = 0 ∧ v' = v ∧ n1 ≤ n' ∧ ∀ a, a < n1 → h' a = h1 a) (fun E h' n' => thr ≠ 0 ∧ E = ge_es thr ∧ n1 ≤ n' ∧ ∀ a, a < n1 → h' a = h1 a)
theorem gt_start {l : Launch} {G : ga_X} {y : MethodName} {b : ByteArray} {nL : Nat} {r : Option FieldType} {rm : Room} {as : List Value} {L N : gc_L} {τ : gm_S} {thr : Int32} {v : Option Value} (own : String) (hl : l.stackTraces = false) (ho : y.cls = own) (hy : plainName own = true) (hL : (lg_sl as).length ≤ nL)
    (body : ∀ (Γ : ga_F) (h1 h : ga_H) (n0 n1 n : Nat), ga_l Γ = l → ga_E Γ G own b nL → ga_Y Γ G r (fun v' h' n' => thr = 0 ∧ v' = v ∧ n1 ≤ n' ∧ ∀ a, a < n1 → h' a = h1 a) (fun E h' n' => thr ≠ 0 ∧ E = ge_es thr ∧ n1 ≤ n' ∧ ∀ a, a < n1 → h' a = h1 a) rm → gc_P G L N τ n0 h → n0 ≤ n → (∀ a, a < n1 → h a = h1 a) → n1 ≤ n → n0 ≤ n1 → (∀ x ∈ (ga_c Γ).exceptionTable.toList, False) → ga Γ G h n 0 0 0 (lv_args 0 as) []) : gt_C l G y b nL r rm as L N τ thr v := fun h1 n0 n1 hP hn =>
  ga_start hl (by rw [ho]; exact hy) hL (fun Γ e X Y _ hxt => body Γ h1 h1 n0 n1 n1 e (ho ▸ X) Y hP hn (fun _ _ => rfl) (Nat.le_refl _) hn hxt)
/-- it answers v, or throws E where p fails; the heap stays -/
def gth_C (l : Launch) (G : ga_X) (y : MethodName) (b : ByteArray) (nL : Nat) (r : Option FieldType) (rm : Room) (as : List Value) (L N : gc_L) (τ : gm_S) (p : Prop) (e : String) (v : Option Value) : Prop :=
  ∀ (h1 : ga_H) (n0 n1 : Nat), gc_P G L N τ n0 h1 → n0 ≤ n1 → ga_C l G y b nL r rm as h1 n1 (fun v' h' n' => p ∧ v' = v ∧ h' = h1 ∧ n' = n1) (fun E h' n' => ¬ p ∧ E = e ∧ h' = h1 ∧ n1 ≤ n')
theorem gth_start {l : Launch} {G : ga_X} {y : MethodName} {b : ByteArray} {nL : Nat} {r : Option FieldType} {rm : Room} {as : List Value} {L N : gc_L} {τ : gm_S} {p : Prop} {e : String} {v : Option Value} (own : String) (hl : l.stackTraces = false) (ho : y.cls = own) (hy : plainName own = true) (hL : (lg_sl as).length ≤ nL)
    (body : ∀ (Γ : ga_F) (h : ga_H) (n0 n : Nat), ga_l Γ = l → ga_E Γ G own b nL → ga_Y Γ G r (fun v' h' n' => p ∧ v' = v ∧ h' = h ∧ n' = n) (fun E h' n' => ¬ p ∧ E = e ∧ h' = h ∧ n ≤ n') rm → gc_P G L N τ n0 h → n0 ≤ n → (∀ x ∈ (ga_c Γ).exceptionTable.toList, False) → ga Γ G h n 0 0 0 (lv_args 0 as) []) : gth_C l G y b nL r rm as L N τ p e v := fun h1 n0 n1 hP hn =>
  ga_start hl (by rw [ho]; exact hy) hL (fun Γ e X Y _ hxt => body Γ h1 n0 n1 e (ho ▸ X) Y hP hn hxt)
theorem cx_cnt {x : Int32} {k : Nat} (h : 0 ≤ x ∧ x ≤ nI k - 1) (hk : k < 2147483648) : x = nI (cx x) ∧ cx x < k := by
  obtain ⟨j, hj, e⟩ := nI_of (Int32.not_lt.mpr h.1)
  have hc : cx x = j := by rw [e]; unfold cx; rw [nI_clamp hj]
  refine ⟨by rw [hc]; exact e, ?_⟩
  rw [hc]
  cases k with
  | zero =>
    have h2 := h.2
    rw [e] at h2
    have h3 := Int32.le_iff_toInt_le.mp h2
    rw [nI_toInt hj] at h3
    have : (nI 0 - 1 : Int32).toInt = -1 := by decide
    omega
  | succ k =>
    have h2 := h.2
    rw [nI_pred, e] at h2
    have := (nI_leI (by omega) (by omega)).mp h2
    omega
section GAN
variable {Γ : ga_F} {G : ga_X} {h : ga_H} {n cells slots pc : Nat} {lv : List (Nat × Value)} {st : List Value} {own : String} {cc : ByteArray} {nL : Nat}
theorem ga_ifnullI (X : ga_E Γ G own cc nL) {p : Prop} [Decidable p] {x : Nat} {off : Int} {tgt : Nat} (hdg : decode cc pc = .ok (.ifnull off, 3)) (ht : (pc : Int) + off = (tgt : Int)) (kt : p → ga Γ G h n cells slots tgt lv st) (kf : ¬ p → ga Γ G h n cells slots (pc + 3) lv st) : ga Γ G h n cells slots pc lv ((if p then .null else .ref x) :: st) := by
  by_cases hp : p
  · rw [if_pos hp]; exact ga_ifnullN X hdg ht (kt hp)
  · rw [if_neg hp]; exact ga_ifnull X hdg (kf hp)
theorem ga_ifnonnullI (X : ga_E Γ G own cc nL) {p : Prop} [Decidable p] {x : Nat} {off : Int} {tgt : Nat} (hdg : decode cc pc = .ok (.ifnonnull off, 3)) (ht : (pc : Int) + off = (tgt : Int)) (kt : ¬ p → ga Γ G h n cells slots tgt lv st) (kf : p → ga Γ G h n cells slots (pc + 3) lv st) : ga Γ G h n cells slots pc lv ((if p then .null else .ref x) :: st) := by
  by_cases hp : p
  · rw [if_pos hp]; exact ga_ifnonnullN X hdg (kf hp)
  · rw [if_neg hp]; exact ga_ifnonnull X hdg ht (kt hp)
end GAN
