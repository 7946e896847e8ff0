/-! states of ints by field and place -/
abbrev gm_S : Type := Nat → Nat → Int32
def up2 (σ : gm_S) (k i : Nat) (v : Int32) : gm_S := fun a => if a = k then upd (σ k) i v else σ a
theorem up2_s {σ : gm_S} {k i : Nat} {v : Int32} : up2 σ k i v k = upd (σ k) i v := if_pos rfl
theorem up2_n {σ : gm_S} {k i a : Nat} {v : Int32} (h : a ≠ k) : up2 σ k i v a = σ a := if_neg h
theorem up2_at {σ : gm_S} {k i b : Nat} {v : Int32} : up2 σ k i v k b = if b = i then v else σ k b := by rw [up2_s]; rfl
theorem up2_ss {σ : gm_S} {k i : Nat} {v : Int32} : up2 σ k i v k i = v := by rw [up2_at, if_pos rfl]
