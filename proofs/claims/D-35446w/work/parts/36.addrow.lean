/-! list.add(element): a row -/
set_option maxRecDepth 100000
section GAD
variable {Γ : ga_F} {G : ga_X} {h : ga_H} {n cells slots pc : Nat} {lv lv' : List (Nat × Value)} {st : List Value} {own : String} {cc : ByteArray} {nL : Nat} {ret : Option FieldType} {Qp : Option Value → ga_H → Nat → Prop} {Xp : String → ga_H → Nat → Prop} {rm : Room}
def gc_cap (k c : Nat) : Nat := if c = 0 then 10 else if k < c then c else c + c / 2
set_option maxHeartbeats 2000000 in
theorem ga_addrow {NN : Nat} (X : ga_E Γ G own cc nL) (Y : ga_Y Γ G ret Qp Xp rm) {idx count ad e k x : Nat} {m : Int32} {f0 : Nat → Option Nat} (w : ga_WF own idx RJ2 ⟨"java/util/List", "add", "(Ljava/lang/Object;)Z"⟩ yJ2_add cJ2_add 2 (some FieldType.boolean) 1) (hL : h ad = some (ga_O 11 [.int m, .ref e, .int (nI k)])) (hA : G.2.1 ≤ ad) (hAn : G.2.1 ≤ n) (han : ad < n) (hx : ga_El h "java/lang/Object" x) (hxn : x < n)
    (hc : (NN = 0 ∧ k = 0 ∧ e = G.2.2.2 0) ∨ (¬ NN = 0 ∧ h e = some (ga_R G 3 NN f0) ∧ k ≤ NN ∧ 10 ≤ NN ∧ NN ≤ 2000 ∧ G.2.1 ≤ e ∧ e ≠ ad ∧ e < n ∧ ∀ j, j < k → ∀ y, f0 j = some y → ga_El h "java/lang/Object" y ∧ y < n)) (hk : k ≤ 600)
    (hR : 8 ≤ rm.frames ∧ 300 ≤ rm.locals) (hf : cells + 1 ≤ rm.cells ∧ slots + 900 ≤ rm.slots) (hw : (st.map fun v => v.category).sum ≤ 8) (hdg : decode cc pc = .ok (.invokeinterface idx count, 5))
    (kk : ∀ (h' : ga_H) (n' e' N' : Nat) (f' : Nat → Option Nat), n ≤ n' → n' ≤ n + 1 → h' ad = some (ga_O 11 [.int (m + 1), .ref e', .int (nI (k + 1))]) → h' e' = some (ga_R G 3 N' f') → (∀ j, j < k → f' j = f0 j) → f' k = some x → k < N' → N' ≤ 2000 → 10 ≤ N' → N' = gc_cap k NN → ((¬ NN = 0 ∧ e' = e) ∨ (n ≤ e' ∧ e' < n')) → (∀ b, b ≠ ad → b ≠ e' → h' b = h b) → ga Γ G h' n' (cells + 1) (slots + 900) (pc + 5) lv (.int 1 :: st)) : ga Γ G h n cells slots pc lv (.ref x :: .ref ad :: st) := by
  rcases hc with ⟨hnz, rfl, rfl⟩ | ⟨hnp, hE, hkN, hN10, hN2, hee, hea, hen, hel⟩
  · refine ga_callF X Y (As := [.ref x]) (ja_fi _ X.tr G ad x m _ _ hL hA hAn han hx hxn) w (ci := 11) rfl hL ⟨by dsimp only; omega, by dsimp only; omega⟩ ⟨by dsimp only; omega, by dsimp only; omega⟩ rfl hw hdg (fun v9 h9 n9 hq _ => ?_) (fun _ _ _ q _ => q.elim)
    obtain ⟨rfl, hq2, hq3⟩ := hq
    rw [hq2, hq3]
    refine ga_widen (k2 := cells + 1) (n2 := slots + 900) (by dsimp only; omega) (by dsimp only; omega) ?_
    exact kk _ _ n 10 _ (by omega) (by omega) ga_up_s ((ga_up_n (by omega)).trans ga_up_s) (fun j hj => absurd hj (by omega)) (by simp [va_up]) (by decide) (by decide) (by decide) (by unfold gc_cap; rw [if_pos hnz]) (Or.inr ⟨Nat.le_refl _, by omega⟩) (fun b h1 h2 => (ga_up_n h1).trans (ga_up_n h2))
  · by_cases c : k < NN
    · refine ga_callF X Y (As := [.ref x]) (ja_in _ X.tr G ad e k NN x m f0 _ _ hL hE hA hee hea c (by omega) hx) w (ci := 11) rfl hL ⟨by dsimp only; omega, by dsimp only; omega⟩ ⟨by dsimp only; omega, by dsimp only; omega⟩ rfl hw hdg (fun v9 h9 n9 hq _ => ?_) (fun _ _ _ q _ => q.elim)
      obtain ⟨rfl, hq2, hq3⟩ := hq
      rw [hq2, hq3]
      refine ga_widen (k2 := cells + 1) (n2 := slots + 900) (by dsimp only; omega) (by dsimp only; omega) ?_
      exact kk _ _ e NN _ (Nat.le_refl _) (by omega) ga_up_s ((ga_up_n hea).trans ga_up_s) (fun j hj => by simp [va_up, Nat.ne_of_lt hj]) (by simp [va_up]) c hN2 hN10 (by unfold gc_cap; rw [if_neg hnp, if_pos c]) (Or.inl ⟨hnp, rfl⟩) (fun b h1 h2 => (ga_up_n h1).trans (ga_up_n h2))
    · have hkN2 : k = NN := by omega
      subst hkN2
      refine ga_callF X Y (As := [.ref x]) (ja_gr _ X.tr G ad e k x m f0 _ _ hL hE hA hAn (by omega) (by omega) han hen hea hee (fun i hi y hy => hel i hi y hy) hx hxn) w (ci := 11) rfl hL ⟨by dsimp only; omega, by dsimp only; omega⟩ ⟨by dsimp only; omega, by dsimp only; omega⟩ rfl hw hdg (fun v9 h9 n9 hq _ => ?_) (fun _ _ _ q _ => q.elim)
      obtain ⟨rfl, hq2, hq3⟩ := hq
      rw [hq2, hq3]
      refine ga_widen (k2 := cells + 1) (n2 := slots + 900) (by dsimp only; omega) (by dsimp only; omega) ?_
      exact kk _ _ n (k + k / 2) _ (by omega) (by omega) ga_up_s ((ga_up_n (by omega)).trans ga_up_s) (fun j hj => by simp [va_up, Nat.ne_of_lt hj, va_cpy, hj]) (by simp [va_up]) (by omega) (by omega) (by omega) (by unfold gc_cap; rw [if_neg hnp, if_neg c]) (Or.inr ⟨Nat.le_refl _, by omega⟩) (fun b h1 h2 => (ga_up_n h1).trans (ga_up_n h2))
end GAD
