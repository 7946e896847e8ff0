/-! CALLS through interfaces, of nest mates, of methods with handlers; exceptions thrown and caught -/
set_option maxRecDepth 100000
def ga_WF (own : String) (idx : Nat) (C : String) (x y : MethodName) (b : ByteArray) (L : Nat) (r : Option FieldType) (np : Nat) : Prop :=
  Cond.methodLink own idx x ∈ lw_all ∧ Cond.selects C x y ∈ lw_all ∧ Cond.instanceMethod y ∈ lw_all ∧ Cond.initialized y.cls ∈ lw_all ∧ Cond.code y b L r ∈ lw_all ∧ (C, x, y) ∈ ga_ifs ∧ (x.cls ≠ "java/lang/invoke/MethodHandle" ∧ x.cls ≠ "java/lang/invoke/VarHandle" ∧ (parseMethodDescriptor x.desc).map (fun d => d.parameters.length) = some np)
def ga_WN (own : String) (idx : Nat) (y : MethodName) (b : ByteArray) (L : Nat) (np : Nat) (host : String) : Prop :=
  Cond.methodLinkNest own idx y host ∈ lw_tbl ∧ Cond.instanceMethod y ∈ lw_all ∧ Cond.initialized y.cls ∈ lw_all ∧ Cond.code y b L none ∈ lw_all ∧ y.name = "<init>" ∧ (y.cls ≠ "java/lang/invoke/MethodHandle" ∧ y.cls ≠ "java/lang/invoke/VarHandle" ∧ (parseMethodDescriptor y.desc).map (fun d => d.parameters.length) = some np)
def ga_WVW (own : String) (idx : Nat) (C : String) (y : MethodName) (b : ByteArray) (L : Nat) (r : Option FieldType) (hh : List (Nat × Nat × Nat × Nat)) (np : Nat) : Prop :=
  Cond.methodLink own idx y ∈ lw_all ∧ Cond.instanceMethod y ∈ lw_all ∧ Cond.selects C y y ∈ lw_all ∧ Cond.initialized C ∈ lw_all ∧ Cond.codeWith y b L r hh ∈ lw_all ∧ (y.cls = C ∧ y.cls ≠ "java/lang/invoke/MethodHandle" ∧ y.cls ≠ "java/lang/invoke/VarHandle" ∧ (parseMethodDescriptor y.desc).map (fun d => d.parameters.length) = some np)
def ga_WSW (own : String) (idx : Nat) (y : MethodName) (b : ByteArray) (L : Nat) (r : Option FieldType) (hh : List (Nat × Nat × Nat × Nat)) (np : Nat) : Prop :=
  Cond.methodLink own idx y ∈ lw_all ∧ Cond.static y ∈ lw_all ∧ Cond.initialized y.cls ∈ lw_all ∧ Cond.codeWith y b L r hh ∈ lw_all ∧ (y.cls ≠ "java/lang/invoke/MethodHandle" ∧ y.cls ≠ "java/lang/invoke/VarHandle" ∧ (parseMethodDescriptor y.desc).map (fun d => d.parameters.length) = some np)
theorem ga_lwF {own : String} {idx : Nat} {C : String} {x y : MethodName} {b : ByteArray} {L : Nat} {r : Option FieldType} (h1 : Cond.methodLink own idx x ∈ lw_all) (h2 : Cond.selects C x y ∈ lw_all) (h3 : Cond.instanceMethod y ∈ lw_all) (h4 : Cond.initialized y.cls ∈ lw_all) (h5 : Cond.code y b L r ∈ lw_all) : GoodIn lw_all (va_wsF own idx C x y (ws_ y b L r)) := by
  refine lw_app ?_ (lw_meth h5)
  intro w hw
  simp only [List.mem_cons, List.not_mem_nil, or_false] at hw
  rcases hw with e | e | e | e
  · rw [e]; exact h1
  · rw [e]; exact h2
  · rw [e]; exact h3
  · rw [e]; exact h4
section GAC2
variable {Γ : ga_F} {G : ga_X} {h : ga_H} {n cells slots pc : Nat} {lv lv' : List (Nat × Value)} {st : List Value} {own : String} {cc : ByteArray} {nL : Nat} {ret : Option FieldType} {Qp : Option Value → ga_H → Nat → Prop} {Xp : String → ga_H → Nat → Prop} {rm : Room}
theorem ga_go5 {mc ms : Nat} {st0 : List Value} {as : Array Value} {Q' : Option Value → ga_H → Nat → Prop} {X' : String → ga_H → Nat → Prop}
    (hr : ∀ ls : Array Slot, lv_has ls (ga_c Γ).maxLocals lv → ∀ (H : Heap) (locs : List Loc), ga_M G h n H → va_S (ga_A G) (ga_s Γ).heap H locs → vx_Run5 Γ.1 Γ.2.1 Γ.2.2.1 Γ.2.2.2.1 Γ.2.2.2.2.1 Γ.2.2.2.2.2.1 Γ.2.2.2.2.2.2.1 Γ.2.2.2.2.2.2.2.1 Γ.2.2.2.2.2.2.2.2.1 Γ.2.2.2.2.2.2.2.2.2.1 H locs cells slots mc ms (F0 (ga_m Γ) pc ls st0) st (ga_Qc G Q' as) (ga_Xc G X') (ga_A G))
    (kk : ∀ (v : Option Value) (h' : ga_H) (n' : Nat), Q' v h' n' → n ≤ n' → ga Γ G h' n' (cells + mc) (slots + ms) (pc + 5) lv (v.toList ++ st))
    (kx : ∀ (E : String) (h' : ga_H) (n' : Nat), X' E h' n' → n ≤ n' → ga_T Γ G h' n' (cells + mc) (slots + ms) pc lv E) : ga Γ G h n cells slots pc lv st0 := by
  intro ls hl H locs hM hS T hT XT
  rcases hr ls hl H locs hM hS T hT XT with ⟨v, st₀, t, T', L, h0, X', hL, e1, e2, ⟨v2, h', n', hv, hq, hM', hF⟩, st⟩ | ⟨q, st₀, t, T', L, E, ce, h0, X', hL, e1, e2, ⟨h', n', hq, hM', hF⟩, hce, hcv, hcl, st⟩
  · cases hv
    obtain ⟨k1, k2, k3⟩ := vx_keep h0 e1 hS (fun q _ h => h) (fun q h => h) hL hF
    have hn : n ≤ n' := by rw [← hM.1, ← hM'.1, ← e1]; exact k1
    obtain ⟨t2, a1, b1⟩ := kk v h' n' hq hn ls hl T'.heap (locs ++ L) (by rw [e1]; exact hM') k3 T' rfl X'
    exact ⟨t2, st t2 a1, b1⟩
  · obtain ⟨k1, k2, k3⟩ := vx_keep h0 e1 hS (fun q _ h => h) (fun q h => h) hL hF
    have hn : n ≤ n' := by rw [← hM.1, ← hM'.1, ← e1]; exact k1
    obtain ⟨t2, a1, b1⟩ := kx E h' n' hq hn ls hl T'.heap (locs ++ L) (by rw [e1]; exact hM') k3 q ce (by rw [e1]; exact hce) hcv hcl _ T' rfl X'
    exact ⟨t2, st.trans a1, b1⟩
theorem ga_callF (X : ga_E Γ G own cc nL) (Y : ga_Y Γ G ret Qp Xp rm) {C : String} {idx count : Nat} {x y : MethodName} {b : ByteArray} {L : Nat} {r : Option FieldType} {rm' : Room} {As : List Value} {a ci : Nat} {fs : List Value} {T : u_T} {N : Nat} {Q' : Option Value → ga_H → Nat → Prop} {X' : String → ga_H → Nat → Prop} {st0 : List Value}
    (hC : ga_C (ga_l Γ) G y b L r rm' (.ref a :: As) h n Q' X') (w : ga_WF own idx C x y b L r As.length) (hc : ga_cl[ci]? = some (C, T, N)) (ha : h a = some (ga_O ci fs)) (hR : rm'.frames + 1 ≤ rm.frames ∧ 8 + (L + 11) + rm'.locals ≤ rm.locals) (hf : cells + rm'.cells ≤ rm.cells ∧ slots + rm'.slots ≤ rm.slots) (hst : st0 = As.reverse ++ .ref a :: st) (hw : (st.map fun v => v.category).sum ≤ 8) (hdg : decode cc pc = .ok (.invokeinterface idx count, 5))
    (kk : ∀ (v : Option Value) (h' : ga_H) (n' : Nat), Q' v h' n' → n ≤ n' → ga Γ G h' n' (cells + rm'.cells) (slots + rm'.slots) (pc + 5) lv (v.toList ++ st))
    (kx : ∀ (E : String) (h' : ga_H) (n' : Nat), X' E h' n' → n ≤ n' → ga_T Γ G h' n' (cells + rm'.cells) (slots + rm'.slots) pc lv E) : ga Γ G h n cells slots pc lv st0 := by
  subst hst
  refine ga_go5 (as := (Value.ref a :: As).toArray) (fun ls hl H locs hM hS => ?_) kk kx
  exact vx_runF (As := As) (rest := st) (X.K.1.1 ci _ hc).2 ⟨X.1, X.2.1, X.2.2.1, X.ow, X.2.2.2.1⟩ hC (va_cwF As.length X.2.2.2.1 (ga_lwF w.1 w.2.1 w.2.2.1 w.2.2.2.1 w.2.2.2.2.1) rfl rfl rfl (X.K.2.2.1 _ w.2.2.2.2.2.1) w.2.2.2.2.2.2 ⟨by rw [Y.2.2.1]; exact hR.1, by rw [Y.2.2.2.2.2]; exact hR.2⟩)
    ⟨ga_blind, va_recv X.K.1 (hM.one ha (ga_std_r hc)) (ci := ci) (q0 := 0) hc rfl, fun U hU hW => ⟨rfl, by rw [hU]; exact hM, ga_K_moved X.K hW (by rw [hU]; exact hS.1) (by rw [hU]; exact hS.2.1)⟩⟩ rfl rfl (hl.1.trans X.2.2.1) rfl (lv_room hw) hdg ⟨by rw [Y.2.2.2.1]; exact hf.1, by rw [Y.2.2.2.2.1]; exact hf.2⟩
/-- a nest mate's constructor -/
theorem ga_callN (X : ga_E Γ G own cc nL) (Y : ga_Y Γ G ret Qp Xp rm) {idx : Nat} {y : MethodName} {b : ByteArray} {L : Nat} {rm' : Room} {As : List Value} {a : Nat} {host : String} {Q' : Option Value → ga_H → Nat → Prop} {X' : String → ga_H → Nat → Prop} {st0 : List Value}
    (hC : ga_C (ga_l Γ) G y b L none rm' (.ref a :: As) h n Q' X') (w : ga_WN own idx y b L As.length host) (hR : rm'.frames + 1 ≤ rm.frames ∧ 8 + (L + 11) + rm'.locals ≤ rm.locals) (hf : cells + rm'.cells ≤ rm.cells ∧ slots + rm'.slots ≤ rm.slots) (hst : st0 = As.reverse ++ .ref a :: st) (hw : (st.map fun v => v.category).sum ≤ 8) (hdg : decode cc pc = .ok (.invokespecial idx, 3))
    (kk : ∀ (v : Option Value) (h' : ga_H) (n' : Nat), Q' v h' n' → n ≤ n' → ga Γ G h' n' (cells + rm'.cells) (slots + rm'.slots) (pc + 3) lv (v.toList ++ st))
    (kx : ∀ (E : String) (h' : ga_H) (n' : Nat), X' E h' n' → n ≤ n' → ga_T Γ G h' n' (cells + rm'.cells) (slots + rm'.slots) pc lv E) : ga Γ G h n cells slots pc lv st0 := by
  subst hst
  refine ga_go (as := (Value.ref a :: As).toArray) (fun ls hl H locs hM hS => ?_) kk kx
  exact vx_runIN (As := As) (rest := st) ⟨X.1, X.2.1, X.2.2.1, X.ow, X.2.2.2.1⟩ hC ⟨va_cnB As.length X.2.2.2.1 (lw_meth w.2.2.2.1) rfl rfl rfl (X.K.2.1 _ w.1 rfl) (X.hts w.2.2.1) w.2.2.2.2.2 ⟨by rw [Y.2.2.1]; exact hR.1, by rw [Y.2.2.2.2.2]; exact hR.2⟩, w.2.2.2.2.1, X.hts w.2.1⟩
    ⟨ga_blind, fun U hU hW => ⟨rfl, by rw [hU]; exact hM, ga_K_moved X.K hW (by rw [hU]; exact hS.1) (by rw [hU]; exact hS.2.1)⟩⟩ rfl rfl (hl.1.trans X.2.2.1) rfl (lv_room hw) hdg ⟨by rw [Y.2.2.2.1]; exact hf.1, by rw [Y.2.2.2.2.1]; exact hf.2⟩
/-- a method with handlers -/
theorem ga_callVW (X : ga_E Γ G own cc nL) (Y : ga_Y Γ G ret Qp Xp rm) {C : String} {idx : Nat} {y : MethodName} {b : ByteArray} {L : Nat} {r : Option FieldType} {hh : List (Nat × Nat × Nat × Nat)} {rm' : Room} {As : List Value} {a ci : Nat} {fs : List Value} {T : u_T} {N : Nat} {Q' : Option Value → ga_H → Nat → Prop} {X' : String → ga_H → Nat → Prop} {st0 : List Value}
    (hC : ga_CW (ga_l Γ) G y b L r hh rm' (.ref a :: As) h n Q' X') (w : ga_WVW own idx C y b L r hh As.length) (hc : ga_cl[ci]? = some (C, T, N)) (ha : h a = some (ga_O ci fs)) (hR : rm'.frames + 1 ≤ rm.frames ∧ 8 + (L + 11) + rm'.locals ≤ rm.locals) (hf : cells + rm'.cells ≤ rm.cells ∧ slots + rm'.slots ≤ rm.slots) (hst : st0 = As.reverse ++ .ref a :: st) (hw : (st.map fun v => v.category).sum ≤ 8) (hdg : decode cc pc = .ok (.invokevirtual idx, 3))
    (kk : ∀ (v : Option Value) (h' : ga_H) (n' : Nat), Q' v h' n' → n ≤ n' → ga Γ G h' n' (cells + rm'.cells) (slots + rm'.slots) (pc + 3) lv (v.toList ++ st))
    (kx : ∀ (E : String) (h' : ga_H) (n' : Nat), X' E h' n' → n ≤ n' → ga_T Γ G h' n' (cells + rm'.cells) (slots + rm'.slots) pc lv E) : ga Γ G h n cells slots pc lv st0 := by
  subst hst
  refine ga_go (as := (Value.ref a :: As).toArray) (fun ls hl H locs hM hS => ?_) kk kx
  exact vx_runVX (hh := hh) (As := As) (rest := st) ⟨X.1, X.2.1, X.2.2.1, X.ow, X.2.2.2.1⟩ hC (vx_cwVW As.length X.2.2.2.1 (lw_VW w.1 w.2.1 w.2.2.1 w.2.2.2.1 w.2.2.2.2.1) rfl rfl rfl w.2.2.2.2.2 ⟨by rw [Y.2.2.1]; exact hR.1, by rw [Y.2.2.2.2.2]; exact hR.2⟩)
    ⟨ga_blind, va_recv X.K.1 (hM.one ha (ga_std_r hc)) (ci := ci) (q0 := 0) hc rfl, fun U hU hW => ⟨rfl, by rw [hU]; exact hM, ga_K_moved X.K hW (by rw [hU]; exact hS.1) (by rw [hU]; exact hS.2.1)⟩⟩ rfl rfl (hl.1.trans X.2.2.1) rfl (lv_room hw) hdg ⟨by rw [Y.2.2.2.1]; exact hf.1, by rw [Y.2.2.2.2.1]; exact hf.2⟩
theorem ga_callSW (X : ga_E Γ G own cc nL) (Y : ga_Y Γ G ret Qp Xp rm) {idx : Nat} {y : MethodName} {b : ByteArray} {L : Nat} {r : Option FieldType} {hh : List (Nat × Nat × Nat × Nat)} {rm' : Room} {As : List Value} {Q' : Option Value → ga_H → Nat → Prop} {X' : String → ga_H → Nat → Prop} {st0 : List Value}
    (hC : ga_CW (ga_l Γ) G y b L r hh rm' As h n Q' X') (w : ga_WSW own idx y b L r hh As.length) (hR : rm'.frames + 1 ≤ rm.frames ∧ 8 + (L + 11) + rm'.locals ≤ rm.locals) (hf : cells + rm'.cells ≤ rm.cells ∧ slots + rm'.slots ≤ rm.slots) (hst : st0 = As.reverse ++ st) (hw : (st.map fun v => v.category).sum ≤ 8) (hdg : decode cc pc = .ok (.invokestatic idx, 3))
    (kk : ∀ (v : Option Value) (h' : ga_H) (n' : Nat), Q' v h' n' → n ≤ n' → ga Γ G h' n' (cells + rm'.cells) (slots + rm'.slots) (pc + 3) lv (v.toList ++ st))
    (kx : ∀ (E : String) (h' : ga_H) (n' : Nat), X' E h' n' → n ≤ n' → ga_T Γ G h' n' (cells + rm'.cells) (slots + rm'.slots) pc lv E) : ga Γ G h n cells slots pc lv st0 := by
  subst hst
  refine ga_go (as := As.toArray) (fun ls hl H locs hM hS => ?_) kk kx
  exact vx_runSX (hh := hh) (As := As) (rest := st) ⟨X.1, X.2.1, X.2.2.1, X.ow, X.2.2.2.1⟩ hC (vx_cwSW As.length X.2.2.2.1 (lw_SW w.1 w.2.1 w.2.2.1 w.2.2.2.1) rfl rfl rfl w.2.2.2.2 ⟨by rw [Y.2.2.1]; exact hR.1, by rw [Y.2.2.2.2.2]; exact hR.2⟩)
    ⟨ga_blind, fun U hU hW => ⟨rfl, by rw [hU]; exact hM, ga_K_moved X.K hW (by rw [hU]; exact hS.1) (by rw [hU]; exact hS.2.1)⟩⟩ rfl rfl (hl.1.trans X.2.2.1) rfl (lv_room hw) hdg ⟨by rw [Y.2.2.2.1]; exact hf.1, by rw [Y.2.2.2.2.1]; exact hf.2⟩
/-- caught: at pc an exception of the class E; the row x of the table covers it, those ahead of it don't, or name another class -/
theorem ga_catch (X : ga_E Γ G own cc nL) {E name : String} (pre : List ExceptionTableEntry) (x : ExceptionTableEntry) (suf : List ExceptionTableEntry) (hsplit : (ga_c Γ).exceptionTable.toList = pre ++ x :: suf)
    (hpass : ∀ z ∈ pre, covers z pc = false ∨ (z.catchType ≠ 0 ∧ ∃ nm : String, Cond.classLink own z.catchType nm ∈ lw_all ∧ va_Nc E nm (ga_s Γ))) (hx : covers x pc = true) (h0 : x.catchType ≠ 0) (hlink : Cond.classLink own x.catchType name ∈ lw_all) (hcast : Cond.castable E name ∈ lw_tbl)
    (kk : ∀ q : Nat, ga Γ G h n cells slots x.handlerPc lv [.ref q]) : ga_T Γ G h n cells slots pc lv E := by
  intro ls hl H locs hM hS q ce hq hv hcl rest
  exact vx_catch X.ow pre x suf hsplit (fun z hz => (hpass z hz).imp id (fun ⟨a, nm, b, c⟩ => ⟨a, nm, X.hts b, c⟩)) hx h0 (X.hts hlink) (X.nw hcast rfl) hq hv hcl (kk q ls hl H locs hM hS)
/-- new X(text); athrow, in a method without handlers -/
theorem ga_throwS (X : ga_E Γ G own cc nL) (Y : ga_Y Γ G ret Qp Xp rm) {cls text : String} {names : List String} {ik is ic : Nat} (hcls : Bundle.fit cls = true) (hnames : ∀ n ∈ names, Bundle.fit n = true)
    (hk : Cond.classLink own ik cls ∈ lw_all) (hini : Cond.initialized cls ∈ lw_all) (hstr : (own, is, text) ∈ ga_strs) (hat : ∀ w ∈ vx_atS own ic cls names, w ∈ lw_tbl ∧ (goodWord w = true ∨ ga_nwP w = true)) (hgood : ∀ w ∈ Cond.classLink own ik cls :: Cond.initialized cls :: vx_atS own ic cls names, vx_ot w = true)
    (d0 : decode cc pc = .ok (.new ik, 3)) (d3 : decode cc (pc + 3) = .ok (.dup, 1)) (d4 : decode cc (pc + 4) = .ok (.ldc is, 2)) (d6 : decode cc (pc + 6) = .ok (.invokespecial ic, 3)) (d9 : decode cc (pc + 9) = .ok (.athrow, 1))
    (hout : ∀ x ∈ (ga_c Γ).exceptionTable.toList, covers x (pc + 9) = false) (hf : names.length + 3 < rm.frames) (hlo : (st.map fun v => v.category).sum + (13 * (names.length + 1) + 43) ≤ rm.locals) (hc : cells + 1 ≤ rm.cells) (hs : slots + 6 ≤ rm.slots)
    (hp : ∀ n' : Nat, n ≤ n' → Xp cls h n') : ga Γ G h n cells slots pc lv st := by
  intro ls hl H locs hM hS
  obtain ⟨sa, hsa⟩ := X.K.2.2.2.2.2.2.1 _ hstr
  unfold ga_W
  have e := Y.2.1
  simp only [ga_q] at e
  rw [e]
  refine vx_throwS X.1 X.2.1 X.tr X.ow hcls hnames (X.hts hk) (X.hts hini) hsa (fun w hw => ?_) hgood X.K.2.2.2.2.1 X.K.2.2.2.2.2.1 hS hl.1 d0 d3 d4 d6 d9 hout (by rw [Y.2.2.1]; exact hf) (by rw [Y.2.2.2.2.2]; exact hlo) (by rw [Y.2.2.2.1]; exact hc) (by rw [Y.2.2.2.2.1]; exact hs) X.2.2.2.2.2.2.1 (fun t _ hz hq => ?_) hS.2.2 hc hs
  · obtain ⟨h1, h2⟩ := hat w hw
    rcases h2 with h2 | h2
    · exact X.hts (List.mem_filter.mpr ⟨h1, h2⟩)
    · exact X.nw h1 h2
  · refine ⟨h, t.heap.size, hp _ (by rw [← hM.1]; exact hz), hM.grow (fun q h1 => hq q (by rw [hM.1]; exact h1)), Nat.le_trans hS.1 hz, fun q h1 h2 => ?_⟩
    rw [hq q (Nat.lt_of_lt_of_le h1 hS.1)]
    exact hS.2.1 q h1 h2
/-- new X(text); athrow, in a method without handlers -/
theorem ga_throwSW (X : ga_E Γ G own cc nL) (Y : ga_Y Γ G ret Qp Xp rm) {cls text : String} {names : List String} {ik is ic : Nat} (hcls : Bundle.fit cls = true) (hnames : ∀ n ∈ names, Bundle.fit n = true)
    (hk : Cond.classLink own ik cls ∈ lw_all) (hini : Cond.initialized cls ∈ lw_all) (hstr : (own, is, text) ∈ ga_strs) (hat : ∀ w ∈ vx_atS own ic cls names, w ∈ lw_tbl ∧ (goodWord w = true ∨ ga_nwP w = true)) (hgood : ∀ w ∈ Cond.classLink own ik cls :: Cond.initialized cls :: vx_atS own ic cls names, vx_ot w = true)
    (d0 : decode cc pc = .ok (.new ik, 3)) (d3 : decode cc (pc + 3) = .ok (.dup, 1)) (d4 : decode cc (pc + 4) = .ok (.ldc_w is, 3)) (d6 : decode cc (pc + 7) = .ok (.invokespecial ic, 3)) (d9 : decode cc (pc + 10) = .ok (.athrow, 1))
    (hout : ∀ x ∈ (ga_c Γ).exceptionTable.toList, covers x (pc + 10) = false) (hf : names.length + 3 < rm.frames) (hlo : (st.map fun v => v.category).sum + (13 * (names.length + 1) + 43) ≤ rm.locals) (hc : cells + 1 ≤ rm.cells) (hs : slots + 6 ≤ rm.slots)
    (hp : ∀ n' : Nat, n ≤ n' → Xp cls h n') : ga Γ G h n cells slots pc lv st := by
  intro ls hl H locs hM hS
  obtain ⟨sa, hsa⟩ := X.K.2.2.2.2.2.2.1 _ hstr
  unfold ga_W
  have e := Y.2.1
  simp only [ga_q] at e
  rw [e]
  refine vx_throwSW X.1 X.2.1 X.tr X.ow hcls hnames (X.hts hk) (X.hts hini) hsa (fun w hw => ?_) hgood X.K.2.2.2.2.1 X.K.2.2.2.2.2.1 hS hl.1 d0 d3 d4 d6 d9 hout (by rw [Y.2.2.1]; exact hf) (by rw [Y.2.2.2.2.2]; exact hlo) (by rw [Y.2.2.2.1]; exact hc) (by rw [Y.2.2.2.2.1]; exact hs) X.2.2.2.2.2.2.1 (fun t _ hz hq => ?_) hS.2.2 hc hs
  · obtain ⟨h1, h2⟩ := hat w hw
    rcases h2 with h2 | h2
    · exact X.hts (List.mem_filter.mpr ⟨h1, h2⟩)
    · exact X.nw h1 h2
  · refine ⟨h, t.heap.size, hp _ (by rw [← hM.1]; exact hz), hM.grow (fun q h1 => hq q (by rw [hM.1]; exact h1)), Nat.le_trans hS.1 hz, fun q h1 h2 => ?_⟩
    rw [hq q (Nat.lt_of_lt_of_le h1 hS.1)]
    exact hS.2.1 q h1 h2
theorem ga_atS {own : String} {ic : Nat} {cls : String} {names : List String} (h : ((vx_atS own ic cls names).all fun w => decide (w ∈ lw_tbl) && (goodWord w || ga_nwP w)) = true) : ∀ w ∈ vx_atS own ic cls names, w ∈ lw_tbl ∧ (goodWord w = true ∨ ga_nwP w = true) := by
  intro w hw
  have h1 := List.all_eq_true.mp h w hw
  simp only [Bool.and_eq_true, decide_eq_true_eq, Bool.or_eq_true] at h1
  exact h1
theorem ga_otS {L : List Cond} (h : (L.all vx_ot) = true) : ∀ w ∈ L, vx_ot w = true := List.all_eq_true.mp h
end GAC2
