/-! new Barred(): a constructor that hands a constant on to the class above -/
set_option maxRecDepth 100000
def vx_ownB (own : String) (ic : Nat) (cls C0 : String) (names : List String) : List Cond :=
  Bundle.throwableAtoms ++ Bundle.throwableSAtoms ++ Bundle.chainSAtoms cls names ++
  [.methodLink own ic (Bundle.initS cls), .instantiable C0 6, .castable C0 C0, .selects C0 Bundle.tFill0 Bundle.tFill0, .selects C0 Bundle.tFill Bundle.tFill,
   .lays C0 Bundle.tN "cause" "Ljava/lang/Throwable;", .lays C0 Bundle.tN "stackTrace" Bundle.steD, .lays C0 Bundle.tN "suppressedExceptions" Bundle.listD, .lays C0 Bundle.tN "detailMessage" "Ljava/lang/String;",
   .isRef (.static Bundle.tN "UNASSIGNED_STACK" Bundle.steD), .isRef (.static Bundle.tN "SUPPRESSED_SENTINEL" Bundle.listD),
   .fieldLink Bundle.tN 198 Bundle.tN "backtrace" "Ljava/lang/Object;", .lays Bundle.tN Bundle.tN "backtrace" "Ljava/lang/Object;", .lays C0 Bundle.tN "backtrace" "Ljava/lang/Object;"]
section VXB
variable {p : Program} {l : Launch} {e : Env} {R : Room} {s : State} {m₀ : MethodId} {args : Array Value} {below : List Frame} {meth : Method} {c : Code} {W : State} {locs : List Loc} {cells slots : Nat}
set_option maxHeartbeats 1000000 in
theorem vx_ctorMadeB (X : Stand p l e R s m₀ args below meth c W locs cells slots) (hexec : p.tables.exec = Jvm.exec) (htr : e.platform.stackTraces = false) {own cls C0 : String} {names : List String} {ic : Nat}
    (hown : s.vm.findClass own = some m₀.cls) (hcls : Bundle.fit cls = true) (hnames : ∀ n ∈ names, Bundle.fit n = true)
    (h : ∀ a ∈ vx_ownB own ic cls C0 names, a.before args s = true)
    (hlocs : ∀ x ∈ locs, ∀ cell, s.heap[x.base]? = some cell → cell.vm.isStatics = false)
    {a : Addr} {cX : ClassId} {kX : Class} (hfoundX : s.vm.findClass C0 = some cX) (hkX : s.vm.classes[cX]? = some kX) (hcell : W.heap[a]? = some (freshCell cX kX))
    {msg : Value} (hmsg : msg.isRef = true)
    {g : JFrame} (hg : g.method = m₀) (hsize : g.locals.size = c.maxLocals) {rest : List Value} (hstack : g.stack = msg :: .ref a :: rest)
    (hd6 : decode c.code g.pc = .ok (.invokespecial ic, 3))
    (hRframes : names.length + 3 < R.frames) (hRlocals : 2 * g.monitorRoom + (rest.map fun v => v.category).sum + (13 * (names.length + 1) + 42) ≤ R.locals) :
    ∃ (V : State) (ce : Cell) (L : List Loc), Stand p l e R s m₀ args below meth c (V.setCell a ce) (locs ++ L) cells slots ∧ (∀ y ∈ L, y.base = a) ∧ a < V.heap.size ∧ ce.cls = cX ∧ ce.vm = .none ∧
      ∀ target, Steps p.tables e below ((V.setCell a ce).setTop { g with stack := rest, pc := g.pc + 3 }) target → Steps p.tables e below (W.setTop g) target := by
  have howns : e.platform.frameOwnsMonitors = true := by rw [X.admits.platform]
  have hfin : e.platform.finalization = false := by rw [X.admits.platform]
  have hpl : e.platform.magicAccessors = ({} : Platform).magicAccessors := by rw [X.admits.platform]
  have a' : ∀ x, x ∈ vx_ownB own ic cls C0 names → x.holds args s none s [] = true := fun x hx => h x hx
  obtain ⟨T, Z0, L, -, Y⟩ := ThrowableC.of_atoms (args := args) howns hfin hpl (fun x hx => h x (by simp [vx_ownB, hx]))
  obtain ⟨Z, M, LZ, LM, hnZ⟩ := Init0T.ofS_atoms (args := args) hpl L Y (fun x hx => h x (by simp [vx_ownB, hx]))
  obtain ⟨P1, Ps, hlen, L1, hL, hP1m, hlink1, hlink⟩ := Bundle.chainS (args := args) hpl hnZ names cls hcls hnames (fun x hx => h x (by simp [vx_ownB, hx]))
  have hfound : s.vm.findClass C0 = some cX := hfoundX
  obtain ⟨c1, kX', hc1, hk, hord, -, -, hn6⟩ := Cond.instantiable_spec (a' (.instantiable C0 6) (by simp [vx_ownB]))
  cases Option.some.inj (hc1.symm.trans hfound)
  cases Option.some.inj (hkX.symm.trans hk)
  have hsel0 : selectMethod e.platform s.vm cX T.fill0 = .method T.fill0 := by
    obtain ⟨c2, r2, m2, q1, q2, q3, q4, -⟩ := Cond.selects_spec (a' (.selects C0 Bundle.tFill0 Bundle.tFill0) (by simp [vx_ownB]))
    cases Option.some.inj (q1.symm.trans hfound)
    cases Option.some.inj (q2.symm.trans (State.methodFound?_of_named Y.fill0 (by decide)))
    cases Option.some.inj (q3.symm.trans Y.fill0)
    rw [Launch.admits_selectMethod X.admits]; exact q4
  have hselF : selectMethod e.platform s.vm cX T.fill = .method T.fill := by
    obtain ⟨c2, r2, m2, q1, q2, q3, q4, -⟩ := Cond.selects_spec (a' (.selects C0 Bundle.tFill Bundle.tFill) (by simp [vx_ownB]))
    cases Option.some.inj (q1.symm.trans hfound)
    cases Option.some.inj (q2.symm.trans (State.methodFound?_of_named Y.fill (by decide)))
    cases Option.some.inj (q3.symm.trans Y.fill)
    rw [Launch.admits_selectMethod X.admits]; exact q4
  obtain ⟨cellS0, hcS0, hiss⟩ := Y.statics
  obtain ⟨u0, hu0⟩ := Cond.staticRefV Y.unassigned L.unassignedStatic L.statics hcS0 hiss (a' (.isRef (.static Bundle.tN "UNASSIGNED_STACK" Bundle.steD)) (by simp [vx_ownB]))
  obtain ⟨sen, hsen⟩ := Cond.staticRefV Y.sentinel L.sentinelStatic L.statics hcS0 hiss (a' (.isRef (.static Bundle.tN "SUPPRESSED_SENTINEL" Bundle.listD)) (by simp [vx_ownB]))
  obtain ⟨ci198, i198, fB, hk198, hg198, ha198, hsB, -, hnB, htB, hffB⟩ := Cond.ownField (t := .object "java/lang/Object") Y.found L.cls (by decide +kernel) (a' (.fieldLink Bundle.tN 198 Bundle.tN "backtrace" "Ljava/lang/Object;") (by simp [vx_ownB])) (a' (.lays Bundle.tN Bundle.tN "backtrace" "Ljava/lang/Object;") (by simp [vx_ownB])) e.platform hpl
  obtain ⟨cellS, hcS', heS, -, hkeep⟩ := X.same.2.2.2.2.2 T.aS cellS0 hcS0
  have hcellS : W.heap[T.aS]? = some cellS := hcS'
  have hout' : ∀ i, (⟨T.aS, i⟩ : Loc) ∉ locs := fun i hmem => by
    have := hlocs _ hmem cellS0 hcS0
    rw [hiss] at this; cases this
  have hknownS : cellS.vm ≠ .unknown := by
    rw [heS]; intro hu
    rw [show cellS0.vm = .unknown from hu] at hiss
    cases hiss
  have hneS : T.aS ≠ a := fun q => by
    rw [q, hcell] at hcellS
    cases hcellS
    have h9 : cellS0.vm = .none := (congrArg Cell.vm heS).symm
    rw [h9] at hiss
    cases hiss
  obtain ⟨iM, hffM⟩ := Y.msg
  obtain ⟨tyC, dC, hdC, hdnC⟩ := Cond.laysAt hfound hk Y.cause (a' (.lays C0 Bundle.tN "cause" "Ljava/lang/Throwable;") (by simp [vx_ownB]))
  obtain ⟨tyS, dS, hdS, hdnS⟩ := Cond.laysAt hfound hk Y.stack (a' (.lays C0 Bundle.tN "stackTrace" Bundle.steD) (by simp [vx_ownB]))
  obtain ⟨tyP, dP, hdP, hdnP⟩ := Cond.laysAt hfound hk Y.supp (a' (.lays C0 Bundle.tN "suppressedExceptions" Bundle.listD) (by simp [vx_ownB]))
  obtain ⟨tyM, dM, hdM, hdnM⟩ := Cond.laysAt hfound hk hffM (a' (.lays C0 Bundle.tN "detailMessage" "Ljava/lang/String;") (by simp [vx_ownB]))
  obtain ⟨tyB, dB, hdB, hdnB⟩ := Cond.laysAt hfound hk hffB (a' (.lays C0 Bundle.tN "backtrace" "Ljava/lang/Object;") (by simp [vx_ownB]))
  have bC := Cond.laysApart hdB hdC hdnB hdnC (by rw [hnB, Y.causeName]; decide)
  have bS := Cond.laysApart hdB hdS hdnB hdnS (by rw [hnB, Y.stackName]; decide)
  have bP := Cond.laysApart hdB hdP hdnB hdnP (by rw [hnB, Y.suppName]; decide)
  have hskip : SkipFacts T e.platform s (fun u => u) u0 ((preparedCellV T.toThrowableT (freshCell cX kX) a u0 sen).withEntry W.cur) :=
    ⟨{ ci198 := ci198, i198 := i198, fBack := fB }, ⟨hk198, hg198, ha198, hsB⟩, by
      have := fresh_default (c := cX) tyB
      rw [htB] at this
      simpa [preparedCellV, Cell.setSlot, Cell.withEntry, Array.getElem?_setIfInBounds, bC, bS, bP, bC.symm, bS.symm, bP.symm, defaultValue] using this, fun _ _ => rfl⟩
  obtain ⟨tm, methC, cdC, kC, vm₁, hnC, -, -, -, -, -, -, -, hW₁, st1⟩ := Steps.initColdS (tb := p.tables) (e := e) (below := below) (s := s) (U := W) X.here hexec X.warmed hpl hown (t := Bundle.initS cls) rfl rfl (Bundle.fit_spec hcls).2
    (a' (.methodLink own ic (Bundle.initS cls)) (by simp [vx_ownB])) (h (.instanceMethod (Bundle.initS cls)) (by cases names <;> simp [vx_ownB, Bundle.chainSAtoms, Bundle.passSAtoms])) (bytes := Bundle.six) (maxL := 2) (h (.code (Bundle.initS cls) Bundle.six 2 none) (by cases names <;> simp [vx_ownB, Bundle.chainSAtoms, Bundle.passSAtoms]))
    (f := g) hg (a := a) (msg := msg) (rest := rest) hstack hd6
  cases Option.some.inj (hnC.symm.trans hP1m)
  have X₁ := X.noted hW₁
  obtain ⟨vm₂, X₂, st2⟩ := X₁.ctorMessageOffV hexec (g := { g with stack := rest }) hg hsize T L Z LZ M LM (P1 :: Ps)
    (fun P hP => by rcases List.mem_cons.mp hP with rfl | hP; exact L1; exact hL P hP) ⟨hlink1, hlink⟩ (u0 := u0) (sen := sen) (self := a) hmsg (cell := freshCell cX kX) (cellS := cellS)
    hcell (fun _ => by simp) (by simp) rfl rfl hsel0 hselF hcellS hneS hknownS (by rw [hkeep _ (hout' _)]; exact hu0) (by rw [hkeep _ (hout' _)]; exact hsen)
    (Takes.of_laid hk hord tyC (by rw [Y.causeType]; rfl)) (Takes.of_laid hk hord tyS (by rw [Y.stackType]; exact fits_refV_array _ u0)) (Takes.of_laid hk hord tyP (by rw [Y.suppType]; exact fits_refV_object _ sen))
    (Takes.of_laid hk hord tyM (by rw [Y.msgType]; exact fits_refV_object _ ⟨msg, hmsg⟩)) Y.objLocals hskip htr [] hd6
    (by simp only [List.length_cons, hlen]; omega) (by simp only [List.length_cons, hlen]; exact hRlocals)
  have hlt : a < ((W.setVm vm₁).setVm vm₂).heap.size := (Array.getElem?_eq_some_iff.mp hcell).1
  refine ⟨(W.setVm vm₁).setVm vm₂, _, _, X₂, fun y hy => ?_, hlt, rfl, rfl, fun target hwalk => st1 _ (fun acts => ?_)⟩
  · simp only [List.mem_cons, List.not_mem_nil, or_false] at hy
    rcases hy with rfl | rfl | rfl | rfl | rfl <;> rfl
  · rw [doInvoke_state]
    exact st2 _ hwalk
end VXB
def vx_atB (own : String) (ic : Nat) (cls C0 : String) (names : List String) : List Cond := (vx_ownB own ic cls C0 names).filter vx_no
def gB_F (a : Nat) (cX : ClassId) (U : State) : Prop := ∃ kX : Class, U.vm.findClass "GridMarket$Barred" = some cX ∧ U.vm.classes[cX]? = some kX ∧ U.heap[a]? = some (freshCell cX kX)
def gB_O (a : Nat) (cX : ClassId) (t : State) : Prop := ∃ ce : Cell, t.heap[a]? = some ce ∧ ce.vm = .none ∧ ce.cls = cX
theorem gB_at : ((vx_atB "GridMarket$Barred" 3 "java/lang/Exception" "GridMarket$Barred" []).all fun w => decide (w ∈ lw_tbl) && (goodWord w || ga_nwP w)) = true := by decide +kernel
theorem gB_str : ("GridMarket$Barred", 1, "by the limits") ∈ ga_strs := by decide
set_option maxHeartbeats 2000000 in
theorem gB_init (l : Launch) (hl : l.stackTraces = false) (G : ga_X) (a : Nat) (cX : ClassId) (h : ga_H) (n : Nat) (ha : h a = none) (hA : G.2.1 ≤ a) :
    vx_Met l yX11_init (ws_ yX11_init cX11_init 1 none) ({ frames := 4, cells := 0, slots := 0, locals := 60 } : Room) (va_Pc [.ref a] (fun U => (ga_M G h n U.heap ∧ ga_K G U) ∧ gB_F a cX U)) (fun as st o t => ga_Qc G (fun v' h' n' => v' = none ∧ h' = h ∧ n ≤ n') as st o t ∧ gB_O a cX t) (ga_Xc G ga_no) 0 0 (ga_A G) := by
  refine vx_ofW (cc := cX11_init) (maxL := 1) (ret := none) (by decide) rfl ?_
  intro p e s m args below meth c s₁ B hml hx hv
  obtain ⟨rfl, ⟨hM, hK⟩, kX, f1, f2, f3⟩ := hv
  have hts0 := atoms_spec (ws := ws_ yX11_init cX11_init 1 none) B.pre
  have hts : ∀ w ∈ lw_all, w.before _ s = true := fun w h => hts0 w (List.mem_cons_of_mem _ h)
  have hlv := lv_entry [.ref a] (n := 1) (Nat.le_of_ble_eq_true rfl)
  rw [lg_entry_eq]
  generalize (lg_sl [Value.ref a] ++ List.replicate (1 - (lg_sl [Value.ref a]).length) Slot.unset).toArray = ls at hlv ⊢
  have X : ga_E (p, l, e, (headSpec (ws_ yX11_init cX11_init 1 none) ({ frames := 4, cells := 0, slots := 0, locals := 60 } : Room)).room, s, m, [Value.ref a].toArray, below, meth, c, vx_MQ below (fun as st o t => ga_Qc G (fun v' h' n' => v' = none ∧ h' = h ∧ n ≤ n') as st o t ∧ gB_O a cX t) (ga_Xc G ga_no) [Value.ref a].toArray s 0 0 (ga_A G)) G RX11 cX11_init 1 :=
    ⟨B.exec, B.bytes, hml, hts, findClass_of_methodNamed B.named, hK, B.notSynchronized, hl⟩
  refine lv_aload_n B.exec B.bytes dX11_init_0 rfl (lv_at hlv 0 rfl) ?_
  intro T hT XT
  obtain ⟨sa, hsa⟩ := hK.2.2.2.2.2.2.1 _ gB_str
  have hat : ∀ w ∈ vx_atB "GridMarket$Barred" 3 "java/lang/Exception" "GridMarket$Barred" [], w.before [Value.ref a].toArray s = true := fun w hw => by
    have h1 := List.all_eq_true.mp gB_at w hw
    simp only [Bool.and_eq_true, decide_eq_true_eq, Bool.or_eq_true] at h1
    rcases h1.2 with h2 | h2
    · exact hts w (List.mem_filter.mpr ⟨h1.1, h2⟩)
    · exact X.nw h1.1 h2
  have hU := hK.2.2.2.2.1
  have hN := hK.2.2.2.2.2.1
  have hall : ∀ w ∈ vx_ownB "GridMarket$Barred" 3 "java/lang/Exception" "GridMarket$Barred" [], w.before [Value.ref a].toArray s = true := vx_own hat (vx_isRefq hU.1) (vx_isRefq hN.1) hU.2.word hN.2.word
  have htr : e.platform.stackTraces = false := (show e.platform.stackTraces = l.stackTraces by rw [XT.admits.platform]).trans hl
  obtain ⟨V, ce, L, Z, hL, hlt, hcl9, hvm9, st⟩ := vx_ctorMadeB XT B.exec htr (own := "GridMarket$Barred") (cls := "java/lang/Exception") (C0 := "GridMarket$Barred") (names := []) (ic := 3) X.2.2.2.2.1 (by decide) (fun _ h => nomatch h) hall (fun x hx => nomatch hx) f1 f2 (by rw [hT]; exact f3) (msg := .ref sa) rfl
    (g := { method := m, pc := 3, locals := ls, stack := .ref sa :: .ref a :: [], locked := none }) rfl (by rw [hml]; exact hlv.1) (rest := []) rfl (by rw [B.bytes]; exact dX11_init_3) (by decide) (Nat.le_of_ble_eq_true rfl)
  obtain ⟨g1, g2⟩ := vx_frame Z.same
  have hh : (V.setCell a ce).heap[a]? = some ce := heapAt_setCell_self (s := V) ce hlt
  have hLa : ∀ z ∈ [] ++ L, z.base = a := fun z hz => hL z (by simpa using hz)
  have g3 : ∀ q : Nat, q < s.heap.size → q ≠ a → (V.setCell a ce).heap[q]? = s.heap[q]? := fun q h1 h2 => g2 q h1 (fun z hz e => h2 (by rw [← e]; exact hLa z hz))
  have W9 : W p l e (headSpec (ws_ yX11_init cX11_init 1 none) ({ frames := 4, cells := 0, slots := 0, locals := 60 } : Room)).room s m [Value.ref a].toArray below meth c (V.setCell a ce).heap ([] ++ L) 0 0 (vx_MQ below (fun as st o t => ga_Qc G (fun v' h' n' => v' = none ∧ h' = h ∧ n ≤ n') as st o t ∧ gB_O a cX t) (ga_Xc G ga_no) [Value.ref a].toArray s 0 0 (ga_A G)) (F0 m 6 ls []) :=
    vx_ret (W.vret B.exec B.bytes B.returns (fun t ht hW => ⟨⟨none, h, _, rfl, ⟨rfl, rfl, by rw [← hM.1]; exact g1⟩, ⟨by rw [ht], fun b y hb => (hM.2 b y hb).kept (by rw [ht]; exact g3 b (by have := hM.lt hb; rw [hM.1]; exact this) (fun e => by rw [e, ha] at hb; cases hb))⟩, by rw [ht]; exact g1, fun q h1 h2 => by rw [ht]; exact g3 q h1 (fun e => h2 (by rw [e]; exact hA))⟩, ce, by rw [ht]; exact hh, hvm9, hcl9⟩) (fun q hq => by rw [hLa q hq]; exact hA) dX11_init_6 B.notSynchronized)
  obtain ⟨t, a1, b1⟩ := W9 _ rfl Z
  refine ⟨t, ?_, b1⟩
  exact XT.ldcString B.exec (own := "GridMarket$Barred") (text := "by the limits") (index := 1) (a := sa) X.2.2.2.2.1 hsa.1 hsa.2 (g := { method := m, pc := 1, locals := ls, stack := [.ref a], locked := none }) rfl (by rw [B.bytes]; exact dX11_init_1) _ (st _ a1)
