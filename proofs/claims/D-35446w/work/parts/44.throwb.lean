/-! new Barred(); athrow -/
set_option maxRecDepth 100000
section GTB
variable {Γ : ga_F} {G : ga_X} {h : ga_H} {n cells slots pc : Nat} {lv lv' : List (Nat × Value)} {st : List Value} {own : String} {cc : ByteArray} {nL : Nat} {ret : Option FieldType} {Qp : Option Value → ga_H → Nat → Prop} {Xp : String → ga_H → Nat → Prop} {rm : Room}
theorem gB_w {own : String} {ic : Nat} (hl : Cond.methodLink own ic yX11_init ∈ lw_all) : ga_WI own ic yX11_init cX11_init 1 0 := ⟨hl, q1195, q89, q1196, rfl, by decide, by decide, by decide⟩
theorem gB_blind {a : Nat} {cX : ClassId} : FrameBlind (va_Pc [.ref a] (fun U => (ga_M G h n U.heap ∧ ga_K G U) ∧ gB_F a cX U)) := fun as U g mk q => by
  obtain ⟨q0, ⟨q1, q2⟩, q3⟩ := q
  exact ⟨q0, ⟨q1, ga_K_same q2 rfl rfl⟩, q3⟩
set_option maxHeartbeats 2000000 in
theorem ga_throwB (X : ga_E Γ G own cc nL) (Y : ga_Y Γ G ret Qp Xp rm) {ik ic : Nat} (hk : Cond.classLink own ik "GridMarket$Barred" ∈ lw_all) (hl0 : Cond.methodLink own ic yX11_init ∈ lw_all)
    (d0 : decode cc pc = .ok (.new ik, 3)) (d3 : decode cc (pc + 3) = .ok (.dup, 1)) (d4 : decode cc (pc + 4) = .ok (.invokespecial ic, 3)) (d7 : decode cc (pc + 7) = .ok (.athrow, 1))
    (hout : ∀ x ∈ (ga_c Γ).exceptionTable.toList, covers x (pc + 7) = false) (hf : 5 ≤ rm.frames) (hlo : 80 ≤ rm.locals) (hw : ((.ref 0 :: st).map fun v => v.category).sum ≤ 8) (hc : cells + 1 ≤ rm.cells) (hs : slots + 6 ≤ rm.slots) (hGn : G.2.1 ≤ n)
    (hp : ∀ n' : Nat, n ≤ n' → Xp "GridMarket$Barred" h n') : ga Γ G h n cells slots pc lv st := by
  intro ls hl H locs hM hS
  unfold ga_W
  have eY := Y.2.1
  simp only [ga_q] at eY
  rw [eY]
  intro T hT XT
  have hnn : h n = none := by
    cases e : h n with
    | none => rfl
    | some x => exact absurd (hM.lt e) (Nat.lt_irrefl _)
  have hTs : T.heap.size = n := by rw [hT]; exact hM.1
  obtain ⟨vm₁, cX, kX, hfX, hkX, -, -, X₁, st1⟩ := XT.newCold X.1 (own := own) (C := "GridMarket$Barred") (index := ik) (n := 6) X.2.2.2.2.1 (X.hts hk) (X.hts q1186) (X.hts q89)
    (g := F0 (ga_m Γ) pc ls st) rfl (by rw [X.2.1]; exact d0) (by rw [Y.2.2.2.1]; exact hc) (by rw [Y.2.2.2.2.1]; exact hs)
  generalize hT1 : (T.setVm vm₁).pushCell { cls := cX, slots := kX.instanceTypes.map defaultValue, vm := .none } = T1 at X₁ st1
  have hcell : T1.heap[n]? = some (freshCell cX kX) := by rw [← hT1, ← hTs]; exact State.heap_pushCell_size _ _
  have hsz : T1.heap.size = n + 1 := by rw [← hT1, State.heap_pushCell, Array.size_push, State.heap_setVm, hTs]
  have hold : ∀ q : Nat, q < n → T1.heap[q]? = H[q]? := fun q hq => by
    rw [← hT1, ← hT]
    have hq2 : q < (T.setVm vm₁).heap.size := by show q < T.heap.size; rw [hTs]; exact hq
    rw [State.heap_pushCell, Array.getElem?_push_lt hq2]
    exact (Array.getElem?_eq_getElem hq2).symm
  have hM1 : ga_M G h (n + 1) T1.heap := by
    have := hM.grow hold
    rw [hsz] at this
    exact this
  have hS1 : va_S (ga_A G) (ga_s Γ).heap T1.heap locs := ⟨Nat.le_trans hS.1 (by rw [hsz, hM.1]; exact Nat.le_succ n), fun q h1 h2 => by
    rw [hold q (by rw [← hM.1]; exact Nat.lt_of_lt_of_le h1 hS.1)]; exact hS.2.1 q h1 h2, hS.2.2⟩
  have hI := cwI (R := ga_Rm Γ) (s := ga_s Γ) (args := ga_a Γ) (own := own) (index := ic) (y := yX11_init) (bytes := cX11_init) (maxL := 1) (ws := ws_ yX11_init cX11_init 1 none) (rm := ({ frames := 4, cells := 0, slots := 0, locals := 60 } : Room)) (mc := 0) (ms := 0) 0 X.2.2.2.1 (lw_meth q1196) rfl rfl rfl (X.hts q89) (X.hts hl0) (X.hts q1195) rfl (by exact ⟨by decide, by decide, by decide⟩) ⟨by rw [Y.2.2.1]; exact hf, by rw [Y.2.2.2.2.2]; exact hlo⟩
  have hrun := vx_runI (p := Γ.1) (e := Γ.2.2.1) (l := ga_l Γ) (R := ga_Rm Γ) (s := ga_s Γ) (m := ga_m Γ) (args := ga_a Γ) (below := ga_b Γ) (meth := ga_mt Γ) (c := ga_c Γ) (H := T1.heap) (locs := locs) (cells := cells + 1) (slots := slots + 6) (As := []) (rest := .ref n :: st) ⟨X.1, X.2.1, X.2.2.1, X.ow, X.2.2.2.1⟩ (gB_init (ga_l Γ) X.2.2.2.2.2.2.2 G n cX h (n + 1) hnn hGn) hI
    ⟨gB_blind, fun U hU hW => ⟨rfl, ⟨by rw [hU]; exact hM1, ga_K_moved X.K hW (by rw [hU]; exact hS1.1) (by rw [hU]; exact hS1.2.1)⟩, by
      obtain ⟨k', hk', he⟩ := hW.alike.2.2 _ _ hkX
      exact ⟨k', by rw [hW.alike.findClass]; exact hfX, hk', by rw [hU, hcell]; unfold freshCell; rw [he]⟩⟩⟩
    (g := F0 (ga_m Γ) (pc + 4) ls (.ref n :: .ref n :: st)) rfl rfl (hl.1.trans X.2.2.1) rfl (lv_room hw) d4 ⟨by rw [Y.2.2.2.1]; exact hc, by rw [Y.2.2.2.2.1]; exact hs⟩
  have stp : ∀ t, Steps (Γ.1).tables Γ.2.2.1 (ga_b Γ) (T1.setTop (F0 (ga_m Γ) (pc + 4) ls (.ref n :: .ref n :: st))) t → Steps (Γ.1).tables Γ.2.2.1 (ga_b Γ) (T.setTop (F0 (ga_m Γ) pc ls st)) t := fun t hst => by
    refine st1 _ ?_
    have hTT : (Value.ref T.heap.size) = .ref n := by rw [hTs]
    rw [hTT]
    have d3' : decode (ga_c Γ).code (pc + 3) = .ok (.dup, 1) := by rw [X.2.1]; exact d3
    show Steps (Γ.1).tables Γ.2.2.1 (ga_b Γ) (T1.setTop { method := ga_m Γ, pc := pc + 3, locals := ls, stack := .ref n :: st, locked := none }) _
    jvm_step X₁.here [X₁.here.top, X.1, d3', Value.category]
    exact hst
  rcases hrun T1 rfl X₁ with ⟨v, st₀, t, T', L, h0, X', hL, e1, e2, ⟨⟨v2, h', n', hv, ⟨hq1, hq2, hq3⟩, hM', hF⟩, ce, hce, hcv, hcc⟩, go⟩ | ⟨q, st₀, t, T', L, E, ce, h0, X', hL, e1, e2, ⟨h', n', hq, hM', hF⟩, hce, hcv, hcl, go⟩
  · cases hv
    subst hq1; subst hq2
    obtain ⟨k1, k2, k3⟩ := vx_keep h0 e1 hS1 (fun q _ h => h) (fun q h => h) hL hF
    have W9 : W Γ.1 Γ.2.1 Γ.2.2.1 (ga_Rm Γ) (ga_s Γ) (ga_m Γ) (ga_a Γ) (ga_b Γ) (ga_mt Γ) (ga_c Γ) T'.heap (locs ++ L) (cells + 1 + 0) (slots + 6 + 0) (vx_MQ (ga_b Γ) (ga_Qc G Qp) (ga_Xc G Xp) (ga_a Γ) (ga_s Γ) rm.cells rm.slots (ga_A G)) (F0 (ga_m Γ) (pc + 7) ls (.ref n :: st)) :=
      vx_athrow X.1 X.2.1 d7 (vx_out hout X.2.2.2.2.2.2.1 (E := "GridMarket$Barred") (ce := ce) (by rw [e1]; exact hce) hcv (by rw [hcc]; exact hfX) (fun t9 ht9 _ => ⟨h', n', hp n' (by omega), by rw [ht9, e1]; exact hM', by rw [ht9]; exact k3.1, fun q h1 h2 => by rw [ht9]; exact k3.2.1 q h1 h2⟩) k3.2.2 hc hs)
    obtain ⟨t2, a1, b1⟩ := W9 T' rfl X'
    exact ⟨t2, stp _ (go _ a1), b1⟩
  · exact hq.elim
end GTB
