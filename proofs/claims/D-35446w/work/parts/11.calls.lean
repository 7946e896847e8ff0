/-! CALLS -/
set_option maxRecDepth 100000
/-- what a call through the pool entry idx of own asks: virtual or private -/
def ga_WV (own : String) (idx : Nat) (C : String) (y : MethodName) (b : ByteArray) (L : Nat) (r : Option FieldType) (np : Nat) : Prop :=
  Cond.methodLink own idx y ∈ lw_all ∧ Cond.instanceMethod y ∈ lw_all ∧ Cond.selects C y y ∈ lw_all ∧ Cond.initialized C ∈ lw_all ∧ Cond.code y b L r ∈ lw_all ∧ (y.cls = C ∧ y.cls ≠ "java/lang/invoke/MethodHandle" ∧ y.cls ≠ "java/lang/invoke/VarHandle" ∧ (parseMethodDescriptor y.desc).map (fun d => d.parameters.length) = some np)
/-- static -/
def ga_WS (own : String) (idx : Nat) (y : MethodName) (b : ByteArray) (L : Nat) (r : Option FieldType) (np : Nat) : Prop :=
  Cond.methodLink own idx y ∈ lw_all ∧ Cond.static y ∈ lw_all ∧ Cond.initialized y.cls ∈ lw_all ∧ Cond.code y b L r ∈ lw_all ∧ (y.cls ≠ "java/lang/invoke/MethodHandle" ∧ y.cls ≠ "java/lang/invoke/VarHandle" ∧ (parseMethodDescriptor y.desc).map (fun d => d.parameters.length) = some np)
/-- a constructor -/
def ga_WI (own : String) (idx : Nat) (y : MethodName) (b : ByteArray) (L : Nat) (np : Nat) : Prop :=
  Cond.methodLink own idx y ∈ lw_all ∧ Cond.instanceMethod y ∈ lw_all ∧ Cond.initialized y.cls ∈ lw_all ∧ Cond.code y b L none ∈ lw_all ∧ y.name = "<init>" ∧ (y.cls ≠ "java/lang/invoke/MethodHandle" ∧ y.cls ≠ "java/lang/invoke/VarHandle" ∧ (parseMethodDescriptor y.desc).map (fun d => d.parameters.length) = some np)
section GAC
variable {Γ : ga_F} {G : ga_X} {h : ga_H} {n cells slots pc : Nat} {lv lv' : List (Nat × Value)} {st : List Value} {own : String} {cc : ByteArray} {nL : Nat} {ret : Option FieldType} {Qp : Option Value → ga_H → Nat → Prop} {Xp : String → ga_H → Nat → Prop} {rm : Room}
theorem ga_blind {as : List Value} : FrameBlind (va_Pc as (fun U => ga_M G h n U.heap ∧ ga_K G U)) := fun a U g mk q => by
  obtain ⟨q0, q1, q2⟩ := q
  exact ⟨q0, q1, ga_K_same q2 rfl rfl⟩
theorem ga_met {l : Launch} {y : MethodName} {ws : List Cond} {Pc : Array Value → State → Prop} {mc ms : Nat} {free : Addr → Prop} (hM : vx_Met l y ws rm Pc (ga_Qc G Qp) (ga_Xc G ga_no) mc ms free) : Met l y ws rm Pc (ga_Qc G Qp) mc ms free := by
  intro p e hl hc hk s m args below hf happ hP hK
  obtain ⟨k, o, h1, h2, h3, h4⟩ := hM p e hl hc hk s m args below hf happ hP hK
  refine ⟨k, o, h1, h2, h3, ?_⟩
  rcases h4 with h4 | ⟨q, -, E, ce, L, ⟨h', n', hx, -⟩, -⟩
  · exact h4
  · exact hx.elim
theorem ga_go {mc ms : Nat} {st0 : List Value} {as : Array Value} {Q' : Option Value → ga_H → Nat → Prop} {X' : String → ga_H → Nat → Prop}
    (hr : ∀ ls : Array Slot, lv_has ls (ga_c Γ).maxLocals lv → ∀ (H : Heap) (locs : List Loc), ga_M G h n H → va_S (ga_A G) (ga_s Γ).heap H locs → vx_Run Γ.1 Γ.2.1 Γ.2.2.1 Γ.2.2.2.1 Γ.2.2.2.2.1 Γ.2.2.2.2.2.1 Γ.2.2.2.2.2.2.1 Γ.2.2.2.2.2.2.2.1 Γ.2.2.2.2.2.2.2.2.1 Γ.2.2.2.2.2.2.2.2.2.1 H locs cells slots mc ms (F0 (ga_m Γ) pc ls st0) st (ga_Qc G Q' as) (ga_Xc G X') (ga_A G))
    (kk : ∀ (v : Option Value) (h' : ga_H) (n' : Nat), Q' v h' n' → n ≤ n' → ga Γ G h' n' (cells + mc) (slots + ms) (pc + 3) lv (v.toList ++ st))
    (kx : ∀ (E : String) (h' : ga_H) (n' : Nat), X' E h' n' → n ≤ n' → ga_T Γ G h' n' (cells + mc) (slots + ms) pc lv E) : ga Γ G h n cells slots pc lv st0 := by
  intro ls hl H locs hM hS T hT XT
  rcases hr ls hl H locs hM hS T hT XT with ⟨v, st₀, t, T', L, h0, X', hL, e1, e2, ⟨v2, h', n', hv, hq, hM', hF⟩, st⟩ | ⟨q, st₀, t, T', L, E, ce, h0, X', hL, e1, e2, ⟨h', n', hq, hM', hF⟩, hce, hcv, hcl, st⟩
  · cases hv
    obtain ⟨k1, k2, k3⟩ := vx_keep h0 e1 hS (fun q _ h => h) (fun q h => h) hL hF
    have hn : n ≤ n' := by rw [← hM.1, ← hM'.1, ← e1]; exact k1
    obtain ⟨t2, a1, b1⟩ := kk v h' n' hq hn ls hl T'.heap (locs ++ L) (by rw [e1]; exact hM') k3 T' rfl X'
    exact ⟨t2, st t2 a1, b1⟩
  · obtain ⟨k1, k2, k3⟩ := vx_keep h0 e1 hS (fun q _ h => h) (fun q h => h) hL hF
    have hn : n ≤ n' := by rw [← hM.1, ← hM'.1, ← e1]; exact k1
    obtain ⟨t2, a1, b1⟩ := kx E h' n' hq hn ls hl T'.heap (locs ++ L) (by rw [e1]; exact hM') k3 q ce (by rw [e1]; exact hce) hcv hcl _ T' rfl X'
    exact ⟨t2, st.trans a1, b1⟩
theorem ga_out (X : ga_E Γ G own cc nL) (Y : ga_Y Γ G ret Qp Xp rm) {E : String} (hx : ∀ x ∈ (ga_c Γ).exceptionTable.toList, covers x pc = false) (hc : cells ≤ rm.cells) (hs : slots ≤ rm.slots) (hp : Xp E h n) : ga_T Γ G h n cells slots pc lv E := by
  intro ls hl H locs hM hS q ce hq hv hcl rest
  have e := Y.2.1
  simp only [ga_q] at e
  rw [e]
  exact vx_out hx X.2.2.2.2.2.2.1 hq hv hcl (fun t ht _ => ⟨h, n, hp, by rw [ht]; exact hM, by rw [ht]; exact hS.1, fun q h1 h2 => by rw [ht]; exact hS.2.1 q h1 h2⟩) hS.2.2 hc hs
theorem ga_callV (X : ga_E Γ G own cc nL) (Y : ga_Y Γ G ret Qp Xp rm) {C : String} {idx : Nat} {y : MethodName} {b : ByteArray} {L : Nat} {r : Option FieldType} {rm' : Room} {As : List Value} {a ci : Nat} {fs : List Value} {T : u_T} {N : Nat} {Q' : Option Value → ga_H → Nat → Prop} {X' : String → ga_H → Nat → Prop} {st0 : List Value}
    (hC : ga_C (ga_l Γ) G y b L r rm' (.ref a :: As) h n Q' X') (w : ga_WV own idx C y b L r As.length) (hc : ga_cl[ci]? = some (C, T, N)) (ha : h a = some (ga_O ci fs)) (hR : rm'.frames + 1 ≤ rm.frames ∧ 8 + (L + 11) + rm'.locals ≤ rm.locals) (hf : cells + rm'.cells ≤ rm.cells ∧ slots + rm'.slots ≤ rm.slots) (hst : st0 = As.reverse ++ .ref a :: st) (hw : (st.map fun v => v.category).sum ≤ 8) (hdg : decode cc pc = .ok (.invokevirtual idx, 3))
    (kk : ∀ (v : Option Value) (h' : ga_H) (n' : Nat), Q' v h' n' → n ≤ n' → ga Γ G h' n' (cells + rm'.cells) (slots + rm'.slots) (pc + 3) lv (v.toList ++ st))
    (kx : ∀ (E : String) (h' : ga_H) (n' : Nat), X' E h' n' → n ≤ n' → ga_T Γ G h' n' (cells + rm'.cells) (slots + rm'.slots) pc lv E) : ga Γ G h n cells slots pc lv st0 := by
  subst hst
  refine ga_go (as := (Value.ref a :: As).toArray) (fun ls hl H locs hM hS => ?_) kk kx
  exact vx_runV (As := As) (rest := st) ⟨X.1, X.2.1, X.2.2.1, X.ow, X.2.2.2.1⟩ hC (cwV As.length X.2.2.2.1 (lw_V w.1 w.2.1 w.2.2.1 w.2.2.2.1 w.2.2.2.2.1) rfl rfl rfl w.2.2.2.2.2 ⟨by rw [Y.2.2.1]; exact hR.1, by rw [Y.2.2.2.2.2]; exact hR.2⟩)
    ⟨ga_blind, va_recv X.K.1 (hM.one ha (ga_std_r hc)) (ci := ci) (q0 := 0) hc rfl, fun U hU hW => ⟨rfl, by rw [hU]; exact hM, ga_K_moved X.K hW (by rw [hU]; exact hS.1) (by rw [hU]; exact hS.2.1)⟩⟩ rfl rfl (hl.1.trans X.2.2.1) rfl (lv_room hw) hdg ⟨by rw [Y.2.2.2.1]; exact hf.1, by rw [Y.2.2.2.2.1]; exact hf.2⟩
theorem ga_callS (X : ga_E Γ G own cc nL) (Y : ga_Y Γ G ret Qp Xp rm) {idx : Nat} {y : MethodName} {b : ByteArray} {L : Nat} {r : Option FieldType} {rm' : Room} {As : List Value} {Q' : Option Value → ga_H → Nat → Prop} {X' : String → ga_H → Nat → Prop} {st0 : List Value}
    (hC : ga_C (ga_l Γ) G y b L r rm' As h n Q' X') (w : ga_WS own idx y b L r As.length) (hR : rm'.frames + 1 ≤ rm.frames ∧ 8 + (L + 11) + rm'.locals ≤ rm.locals) (hf : cells + rm'.cells ≤ rm.cells ∧ slots + rm'.slots ≤ rm.slots) (hst : st0 = As.reverse ++ st) (hw : (st.map fun v => v.category).sum ≤ 8) (hdg : decode cc pc = .ok (.invokestatic idx, 3))
    (kk : ∀ (v : Option Value) (h' : ga_H) (n' : Nat), Q' v h' n' → n ≤ n' → ga Γ G h' n' (cells + rm'.cells) (slots + rm'.slots) (pc + 3) lv (v.toList ++ st))
    (kx : ∀ (E : String) (h' : ga_H) (n' : Nat), X' E h' n' → n ≤ n' → ga_T Γ G h' n' (cells + rm'.cells) (slots + rm'.slots) pc lv E) : ga Γ G h n cells slots pc lv st0 := by
  subst hst
  refine ga_go (as := As.toArray) (fun ls hl H locs hM hS => ?_) kk kx
  exact vx_runS (As := As) (rest := st) ⟨X.1, X.2.1, X.2.2.1, X.ow, X.2.2.2.1⟩ hC (va_cwS As.length X.2.2.2.1 (lw_S w.1 w.2.1 w.2.2.1 w.2.2.2.1) rfl rfl rfl w.2.2.2.2 ⟨by rw [Y.2.2.1]; exact hR.1, by rw [Y.2.2.2.2.2]; exact hR.2⟩)
    ⟨ga_blind, fun U hU hW => ⟨rfl, by rw [hU]; exact hM, ga_K_moved X.K hW (by rw [hU]; exact hS.1) (by rw [hU]; exact hS.2.1)⟩⟩ rfl rfl (hl.1.trans X.2.2.1) rfl (lv_room hw) hdg ⟨by rw [Y.2.2.2.1]; exact hf.1, by rw [Y.2.2.2.2.1]; exact hf.2⟩
theorem ga_callI (X : ga_E Γ G own cc nL) (Y : ga_Y Γ G ret Qp Xp rm) {idx : Nat} {y : MethodName} {b : ByteArray} {L : Nat} {rm' : Room} {As : List Value} {a : Nat} {Q' : Option Value → ga_H → Nat → Prop} {st0 : List Value}
    (hC : ga_C (ga_l Γ) G y b L none rm' (.ref a :: As) h n Q' ga_no) (w : ga_WI own idx y b L As.length) (hR : rm'.frames + 1 ≤ rm.frames ∧ 8 + (L + 11) + rm'.locals ≤ rm.locals) (hf : cells + rm'.cells ≤ rm.cells ∧ slots + rm'.slots ≤ rm.slots) (hst : st0 = As.reverse ++ .ref a :: st) (hw : (st.map fun v => v.category).sum ≤ 8) (hdg : decode cc pc = .ok (.invokespecial idx, 3))
    (kk : ∀ (v : Option Value) (h' : ga_H) (n' : Nat), Q' v h' n' → n ≤ n' → ga Γ G h' n' (cells + rm'.cells) (slots + rm'.slots) (pc + 3) lv (v.toList ++ st)) : ga Γ G h n cells slots pc lv st0 := by
  subst hst
  refine ga_go (X' := ga_no) (as := (Value.ref a :: As).toArray) (fun ls hl H locs hM hS => ?_) kk (fun _ _ _ q _ => q.elim)
  intro T hT XT
  exact Or.inl (va_runI (As := As) (rest := st) ⟨X.1, X.2.1, X.2.2.1, X.ow, X.2.2.2.1⟩ (ga_met hC) (cwI As.length X.2.2.2.1 (lw_meth w.2.2.2.1) rfl rfl rfl (X.hts w.2.2.1) (X.hts w.1) (X.hts w.2.1) w.2.2.2.2.1 w.2.2.2.2.2 ⟨by rw [Y.2.2.1]; exact hR.1, by rw [Y.2.2.2.2.2]; exact hR.2⟩)
    ⟨ga_blind, fun U hU hW => ⟨rfl, by rw [hU]; exact hM, ga_K_moved X.K hW (by rw [hU]; exact hS.1) (by rw [hU]; exact hS.2.1)⟩⟩ rfl rfl (hl.1.trans X.2.2.1) rfl (lv_room hw) hdg ⟨by rw [Y.2.2.2.1]; exact hf.1, by rw [Y.2.2.2.2.1]; exact hf.2⟩ T hT XT)
/-- Object.<init> -/
theorem ga_objInit (X : ga_E Γ G own cc nL) (Y : ga_Y Γ G ret Qp Xp rm) {idx a : Nat} (hl0 : Cond.methodLink own idx objectInit ∈ lw_all) (hi0 : Cond.instanceMethod objectInit ∈ lw_all) (hc0 : Cond.code objectInit ⟨#[0xb1]⟩ 1 none ∈ lw_all) (hw : (st.map fun v => v.category).sum ≤ 8) (hf : 1 ≤ rm.frames) (hlo : 20 ≤ rm.locals) (hdg : decode cc pc = .ok (.invokespecial idx, 3)) (kk : ga Γ G h n cells slots (pc + 3) lv st) : ga Γ G h n cells slots pc lv (.ref a :: st) := by
  intro ls hl H locs hM hS
  exact W.objInit X.1 X.2.1 X.ow (X.hts hl0) (X.hts hi0) (X.hts hc0) rfl hl.1 rfl hdg (by rw [Y.2.2.1]; exact hf) (Nat.le_trans (Nat.add_le_add_right (lv_room hw) 12) (by rw [Y.2.2.2.2.2]; exact hlo)) (kk ls hl H locs hM hS)
/-- a contract that leaves the heap as it is -/
def gp_C (l : Launch) (G : ga_X) (y : MethodName) (b : ByteArray) (L : Nat) (r : Option FieldType) (rm : Room) (as : List Value) (v : Value) : Prop :=
  ∀ (h : ga_H) (n : Nat), ga_C l G y b L r rm as h n (fun v' h' n' => v' = some v ∧ h' = h ∧ n' = n) ga_no
theorem gp_callS (X : ga_E Γ G own cc nL) (Y : ga_Y Γ G ret Qp Xp rm) {idx : Nat} {y : MethodName} {b : ByteArray} {L : Nat} {r : Option FieldType} {rm' : Room} {As : List Value} {v : Value} {st0 : List Value}
    (hC : gp_C (ga_l Γ) G y b L r rm' As v) (w : ga_WS own idx y b L r As.length) (h0 : rm'.cells = 0 ∧ rm'.slots = 0) (hR : rm'.frames + 1 ≤ rm.frames ∧ 8 + (L + 11) + rm'.locals ≤ rm.locals) (hf : cells ≤ rm.cells ∧ slots ≤ rm.slots) (hst : st0 = As.reverse ++ st) (hw : (st.map fun v => v.category).sum ≤ 8) (hdg : decode cc pc = .ok (.invokestatic idx, 3))
    (kk : ga Γ G h n cells slots (pc + 3) lv (v :: st)) : ga Γ G h n cells slots pc lv st0 := by
  refine ga_callS X Y (hC h n) w hR ⟨by rw [h0.1]; exact hf.1, by rw [h0.2]; exact hf.2⟩ hst hw hdg (fun v' h' n' hq _ => ?_) (fun _ _ _ q _ => q.elim)
  obtain ⟨rfl, rfl, rfl⟩ := hq
  rw [h0.1, h0.2]
  exact kk
end GAC
/-- truth as an int -/
def bI (c : Prop) [Decidable c] : Int32 := if c then 1 else 0
theorem bI_t {c : Prop} [Decidable c] (h : c) : bI c = 1 := if_pos h
theorem bI_f {c : Prop} [Decidable c] (h : ¬ c) : bI c = 0 := if_neg h
theorem bI_0 {c : Prop} [Decidable c] : bI c = 0 ↔ ¬ c := by
  by_cases h : c <;> simp [bI, h]
theorem bI_1 {c : Prop} [Decidable c] : bI c = 1 ↔ c := by
  by_cases h : c <;> simp [bI, h]
theorem bI_c {c d : Prop} [Decidable c] [Decidable d] (h : c ↔ d) : bI c = bI d := by
  by_cases h1 : c <;> simp [bI, h1, ← h]
theorem bI_nar {c : Prop} [Decidable c] : narrow .boolean (.int (bI c)) = .int (bI c) := by
  by_cases h : c <;> simp only [bI, h, if_true, if_false] <;> rfl
section GAB
variable {Γ : ga_F} {G : ga_X} {h : ga_H} {n cells slots pc : Nat} {lv : List (Nat × Value)} {st : List Value} {own : String} {cc : ByteArray} {nL : Nat}
theorem ga_ifb_eq (X : ga_E Γ G own cc nL) {c : Prop} [Decidable c] {off : Int} {tgt : Nat} (hdg : decode cc pc = .ok (.ifCond .eq off, 3)) (ht : (pc : Int) + off = (tgt : Int)) (kt : ¬ c → ga Γ G h n cells slots tgt lv st) (kf : c → ga Γ G h n cells slots (pc + 3) lv st) : ga Γ G h n cells slots pc lv (.int (bI c) :: st) :=
  ga_if_eq X hdg ht (fun q => kt (bI_0.mp q)) (fun q => kf (Classical.byContradiction fun z => q (bI_0.mpr z)))
theorem ga_ifb_ne (X : ga_E Γ G own cc nL) {c : Prop} [Decidable c] {off : Int} {tgt : Nat} (hdg : decode cc pc = .ok (.ifCond .ne off, 3)) (ht : (pc : Int) + off = (tgt : Int)) (kt : c → ga Γ G h n cells slots tgt lv st) (kf : ¬ c → ga Γ G h n cells slots (pc + 3) lv st) : ga Γ G h n cells slots pc lv (.int (bI c) :: st) :=
  ga_if_ne X hdg ht (fun q => kt (Classical.byContradiction fun z => q (bI_0.mpr z))) (fun q => kf (bI_0.mp q))
end GAB
