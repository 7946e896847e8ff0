/-! BASE: one judgement for a method's walk, over an abstract heap (a partial map from addresses to cells) -/
set_option maxRecDepth 100000
abbrev ga_H : Type := Nat → Option va_E
/-- G: classes; the first address that may be written; the array classes by kind; constants' addresses -/
abbrev ga_X : Type := va_G × Nat × (Nat → ClassId) × (Nat → Nat)
abbrev ga_F := Program × Launch × Env × Room × State × MethodId × Array Value × List Frame × Method × Code × (State → Prop)
def ga_up (h : ga_H) (a : Nat) (x : va_E) : ga_H := fun q => if q = a then some x else h q
theorem ga_up_s {h : ga_H} {a : Nat} {x : va_E} : ga_up h a x a = some x := if_pos rfl
theorem ga_up_n {h : ga_H} {a q : Nat} {x : va_E} (hq : q ≠ a) : ga_up h a x q = h q := if_neg hq
theorem ga_up_up {h : ga_H} {a : Nat} {x y : va_E} : ga_up (ga_up h a x) a y = ga_up h a y := by
  funext q
  unfold ga_up
  by_cases e : q = a <;> simp [e]
abbrev ga_cl : List vw_C := [(RX1, TX1, 7), (RX2, TX2, 11), (RX3, TX3, 68), (RX4, TX4, 7), (RX5, TX5, 9), (RX6, TX6, 7), (RX7, TX7, 4), (RX8, TX8, 3), (RX10, TX10, 6), (RX12, TX12, 4), (RX13, TX13, 5), (RJ2, TJ2, 3), (RJ16, TJ16, 4)]
abbrev ga_O (ci : Nat) (fs : List Value) : va_E := .inr (ci, fs)
abbrev ga_I (G : ga_X) (n : Nat) (f : Nat → Int32) : va_E := .inl (G.2.2.1 0, n, .inl f)
abbrev ga_Z (G : ga_X) (n : Nat) (f : Nat → Int32) : va_E := .inl (G.2.2.1 1, n, .inl f)
abbrev ga_L (G : ga_X) (n : Nat) (f : Nat → Int64) : va_E := .inl (G.2.2.1 2, n, .inr (.inl f))
abbrev ga_R (G : ga_X) (k n : Nat) (f : Nat → Option Nat) : va_E := .inl (G.2.2.1 k, n, .inr (.inr (.inr (.inr f))))
abbrev ga_tys (G : ga_X) : List (ClassId × FieldType) := [(G.2.2.1 0, .int), (G.2.2.1 1, .boolean), (G.2.2.1 2, .long), (G.2.2.1 3, .object "java/lang/Object"), (G.2.2.1 4, .object "GridMarket$Worth"), (G.2.2.1 5, .object "GridMarket$Curve"), (G.2.2.1 6, .array .int), (G.2.2.1 7, .array .boolean), (G.2.2.1 8, .array (.array .int)), (G.2.2.1 9, .array (.array .boolean)), (G.2.2.1 10, .array (.object "GridMarket$Curve"))]
abbrev ga_A (G : ga_X) : Nat → Prop := fun q => G.2.1 ≤ q
/-- the words that don't ride in the lists -/
def ga_nwP : Cond → Bool
  | .fieldLinkNest _ _ _ _ _ _ => true
  | .methodLinkNest _ _ _ _ => true
  | .declares _ => true
  | .castable _ _ => true
  | _ => false
theorem ga_nw_warm {w : Cond} {s U : State} (hw : ga_nwP w = true) (hW : s.WarmedH U.vm) (h : va_Nw w s) : va_Nw w U := by
  cases w <;> simp only [ga_nwP] at hw <;> first | exact absurd hw (by decide) | exact va_Nw.warmF hW h | exact va_Nw.warmM hW h | exact va_Nw.warmD hW h | exact va_Nw.warmC hW h
theorem ga_nw_on {w : Cond} (hw : ga_nwP w = true) : w.onTables = true := by
  cases w <;> simp only [ga_nwP] at hw <;> first | exact absurd hw (by decide) | rfl
/-- interface methods and what they select -/
def ga_ifs : List (String × MethodName × MethodName) := [("java/util/ArrayList", ⟨"java/util/List", "size", "()I"⟩, ⟨"java/util/ArrayList", "size", "()I"⟩), ("java/util/ArrayList", ⟨"java/util/List", "add", "(Ljava/lang/Object;)Z"⟩, ⟨"java/util/ArrayList", "add", "(Ljava/lang/Object;)Z"⟩), ("java/util/ArrayList", ⟨"java/util/List", "get", "(I)Ljava/lang/Object;"⟩, ⟨"java/util/ArrayList", "get", "(I)Ljava/lang/Object;"⟩), ("java/util/ArrayList", ⟨"java/util/List", "iterator", "()Ljava/util/Iterator;"⟩, ⟨"java/util/ArrayList", "iterator", "()Ljava/util/Iterator;"⟩), ("java/util/ArrayList$Itr", ⟨"java/util/Iterator", "hasNext", "()Z"⟩, ⟨"java/util/ArrayList$Itr", "hasNext", "()Z"⟩), ("java/util/ArrayList$Itr", ⟨"java/util/Iterator", "next", "()Ljava/lang/Object;"⟩, ⟨"java/util/ArrayList$Itr", "next", "()Ljava/lang/Object;"⟩), ("java/util/ArrayList", ⟨"java/util/List", "add", "(ILjava/lang/Object;)V"⟩, ⟨"java/util/ArrayList", "add", "(ILjava/lang/Object;)V"⟩)]
def ga_aos : List String := ["java/lang/Object", "GridMarket$Worth", "GridMarket$Curve"]
/-- arrays of arrays that are made -/
def ga_aot : List FieldType := [.int, .array .int, .boolean, .array .boolean, .object "GridMarket$Curve"]
def ga_AO (ty : FieldType) (U : State) : Prop := (Cond.arrayOver (.array ty)).before #[] U = true
theorem ga_ao_spec {ty : FieldType} {s : State} (h : ga_AO ty s) : ∃ comp c k, s.vm.findClass (FieldType.array ty).toString = some comp ∧ (s.vm.classes.findIdx? fun (x : Class) => match x.kind with | .array component _ => component == comp | _ => false) = some c ∧ s.vm.classes[c]? = some k ∧ k.kind = .array comp (.array ty) ∧ s.vm.findClass ("[" ++ (FieldType.array ty).toString) = some c := by
  unfold ga_AO Cond.before at h
  simp only [Cond.holds, Cond.value, beq_iff_eq] at h
  cases hc : s.vm.findClass (FieldType.array ty).toString with
  | none => simp [hc] at h
  | some comp =>
    simp only [hc, Option.bind_some, Option.bind_eq_some_iff, Option.map_eq_some_iff] at h
    obtain ⟨c, hi, k, hk, hb⟩ := h
    obtain ⟨hlt, hp, -⟩ := Array.findIdx?_eq_some_iff_getElem.mp hi
    have hkk : s.vm.classes[c] = k := (Array.getElem?_eq_some_iff.mp hk).2
    rw [hkk] at hp
    cases hkind : k.kind with
    | array component ty2 =>
      rw [hkind] at hb hp
      simp at hb hp
      exact ⟨comp, c, k, rfl, hi, hk, by rw [hkind, hp, hb.1], hb.2⟩
    | _ => rw [hkind] at hb; simp at hb
theorem ga_ao_moved {ty : FieldType} {u U : State} (hvm : u.vm.Alike U.vm) (h : ga_AO ty u) : ga_AO ty U := by
  obtain ⟨comp, c, k, h1, h2, h3, h4, h5⟩ := ga_ao_spec h
  obtain ⟨k', hk', he⟩ := hvm.2.2 _ _ h3
  have hkind : k'.kind = .array comp (.array ty) := by rw [he]; exact h4
  have f1 : U.vm.findClass (FieldType.array ty).toString = some comp := by rw [hvm.findClass]; exact h1
  have f2 : U.vm.findClass ("[" ++ (FieldType.array ty).toString) = some c := by rw [hvm.findClass]; exact h5
  unfold ga_AO Cond.before
  simp only [Cond.holds, Cond.value, f1, Option.bind_some, beq_iff_eq]
  rw [Option.bind_eq_some_iff]
  refine ⟨c, (hvm.findIdx?_eqK _ (fun _ => rfl)).trans h2, ?_⟩
  simp [hk', hkind, f2]
/-- the lambda's site: its class is G's kind 11 -/
def ga_lx : MethodName := ⟨"GridMarket", "worths", "(I[[LGridMarket$Curve;II)[LGridMarket$Worth;"⟩
def ga_lσ : Jvm.Lambda.Shape := { iface := "GridMarket$Worth", name := "at", sam := { parameters := [.int], returnType := some .int }, captured := [.object "GridMarket$Curve", .int], kind := 6, implClass := "GridMarket", implName := "lambda$worths$0", implDesc := { parameters := [.object "GridMarket$Curve", .int, .int], returnType := some .int }, implItf := false, inst := { parameters := [.int], returnType := some .int } }
def ga_Lw (G : ga_X) (s : State) : Prop := s.lambdaAt? ga_lx 54 321 ga_lσ = some (G.2.2.1 11, none)
theorem ga_Lw_moved {G : ga_X} {s t : State} (hW : s.WarmedH t.vm) (h : ga_Lw G s) : ga_Lw G t := by
  obtain ⟨m, kc, cf, i0, p0, l, hm, hk, hcf, hsh, hin, hfind, hmade, hcall, hl⟩ := State.lambdaAt?_spec h
  have hA := hW.alike
  have hcall' : t.lambdaCallable ga_lσ (G.2.2.1 11) = true := by
    simp only [State.lambdaCallable, hA.findClass, hA.assignable, hA.superclasses, hA.declaredIn] at hcall ⊢
    exact hcall
  obtain ⟨kc', hk', he⟩ := hA.2.2 _ _ hk
  have hm' : t.methodNamed? ga_lx = some m := by
    have := State.methodNamed?_setVm (s := s) hA ga_lx
    rw [hm] at this
    exact this
  have hcf' : kc'.cf = some cf := by rw [he]; exact hcf
  have hin' : (m.idx, 54, 321, ga_lσ) ∈ Lambda.sitesOf kc' := by rw [he]; exact hin
  have hfind' : (kc'.callSites.find? fun y => y.1 == m.idx && y.2.1 == 54) = some (i0, p0, l) := by rw [he]; exact hfind
  have hmade' := Lambda.isMade_warmer hW hmade
  obtain ⟨m2, k2, hm2, hk2, hjdk, howes⟩ := State.lambdaAt?_road h
  cases hm.symm.trans hm2
  cases hk.symm.trans hk2
  have hjdk' : jdkName kc'.name = false := by rw [he]; exact hjdk
  have howes' : (t.vm.findClass ga_lσ.iface).bind (Lambda.owesInit t.vm) = none := by
    rw [hA.findClass]
    cases hfi : s.vm.findClass ga_lσ.iface with
    | none => rfl
    | some i => rw [hfi] at howes; simpa [Lambda.owesInit_alike hA] using howes
  have hany : ((Lambda.sitesOf kc').any fun y => decide (y = (m.idx, 54, 321, ga_lσ))) = true := by simpa using hin'
  rcases hl with ⟨a, cell, rfl, h2, -⟩ | ⟨rfl, -, hcap⟩
  · cases h2
  · simp [ga_Lw, State.lambdaAt?, guard, hjdk', howes', hm', hk', hcf', hsh, hany, hfind', hcap, hmade', hcall']
def ga_strs : List (String × Nat × String) := [("GridMarket", 254, "not there"), ("GridMarket", 261, "out of range"), ("GridMarket", 264, "not possible"), ("GridMarket", 287, "no nets"), ("GridMarket", 316, "a block loses"), ("GridMarket", 130, "nothing is possible"), ("GridMarket$Barred", 1, "by the limits")]
/-- the lambda's interface -/
def ga_Iw (U : State) : Prop := (Cond.declares ⟨"GridMarket$Worth", "at", "(I)I"⟩).before #[] U = true ∧ (Cond.interfaceMethod "GridMarket$Worth" "GridMarket$Worth" "at" "(I)I").before #[] U = true
theorem ga_Iw_moved {u U : State} (hvm : u.vm.Alike U.vm) (h : ga_Iw u) : ga_Iw U := by
  obtain ⟨h1, h2⟩ := h
  obtain ⟨r, meth, hn, -⟩ := Cond.declares_spec h1
  have tr : ∀ {c : Cond}, c.onTables = true → c.before #[] (u.setVm U.vm) = true → c.before #[] U = true := by
    intro c hc h
    have e := Cond.onTables_vm (A := #[]) (A' := #[]) (U := u) (U' := U) U.vm c hc
    have hU : U.setVm U.vm = U := rfl
    rw [hU] at e
    rw [← e]
    exact h
  exact ⟨tr rfl (by rw [Cond.declares_setVm hvm]; exact h1), tr rfl (by rw [Cond.interfaceMethod_setVm hvm (r := r) hn (by decide)]; exact h2)⟩
/-- what a state's tables and old cells are known to hold, all through a run -/
def ga_K (G : ga_X) (s : State) : Prop :=
  va_K G.1 ga_cl (ga_tys G) s ∧ (∀ w ∈ lw_tbl, ga_nwP w = true → va_Nw w s) ∧ (∀ q ∈ ga_ifs, va_Fw q.1 q.2.1 q.2.2 s) ∧ (∀ C ∈ ga_aos, va_AO C s) ∧
  vx_Zq Bundle.tN "UNASSIGNED_STACK" Bundle.steD (ga_A G) s s.heap ∧ vx_Zq Bundle.tN "SUPPRESSED_SENTINEL" Bundle.listD (ga_A G) s s.heap ∧
  (∀ q ∈ ga_strs, ∃ a, vk_R q.1 q.2.1 q.2.2 a s) ∧
  va_Z "java/util/ArrayList" "DEFAULTCAPACITY_EMPTY_ELEMENTDATA" "[Ljava/lang/Object;" (.ref (G.2.2.2 0)) (ga_A G) s s.heap ∧ va_T (.object "java/lang/Object") (G.2.2.2 0) 0 (fun _ => .null) (ga_A G) s s.heap ∧ G.2.1 ≤ s.heap.size ∧ (∀ ty ∈ ga_aot, ga_AO ty s) ∧ ga_Lw G s ∧ va_Mi "[Ljava/lang/Object;" (G.2.2.2 1) s ∧ ga_Iw s
theorem ga_ifs_ok : ∀ q ∈ ga_ifs, q.2.1.cls ≠ "java/lang/invoke/MethodHandle" ∧ q.2.1.cls ≠ "java/lang/invoke/VarHandle" := by decide +kernel
theorem ga_K_moved {G : ga_X} {s U : State} (hK : ga_K G s) (hW : s.WarmedH U.vm) (hz : s.heap.size ≤ U.heap.size) (hq : ∀ q : Nat, q < s.heap.size → ¬ ga_A G q → U.heap[q]? = s.heap[q]?) : ga_K G U := by
  obtain ⟨h1, h2, h3, h4, h5, h6, h7, h8, h9, h10, h11, h12, h13, h14⟩ := hK
  have hA := hW.alike
  exact ⟨h1.moved hA, fun w hw hp => ga_nw_warm hp hW (h2 w hw hp), fun q hq => (h3 q hq).moved (ga_ifs_ok q hq) hA, fun C hC => (h4 C hC).moved hA,
    (h5.moved hA).kept hq, (h6.moved hA).kept hq, fun q hq => by obtain ⟨a, ha⟩ := h7 q hq; exact ⟨a, ha.warm hW⟩, (h8.moved hA).kept hq, (h9.moved hA).kept hq, Nat.le_trans h10 hz, fun ty ht => ga_ao_moved hA (h11 ty ht), ga_Lw_moved hW h12, h13.moved hA, ga_Iw_moved hA h14⟩
theorem ga_K_same {G : ga_X} {s U : State} (hK : ga_K G s) (hv : U.vm = s.vm) (hh : U.heap = s.heap) : ga_K G U := by
  obtain ⟨h1, h2, h3, h4, h5, h6, h7, h8, h9, h10, h11, h12, h13, h14⟩ := hK
  have hA : s.vm.Alike U.vm := by rw [hv]; exact Vm.Alike.refl _
  exact ⟨h1.moved hA, fun w hw hp => va_Nw.same (ga_nw_on hp) hv.symm (h2 w hw hp), fun q hq => (h3 q hq).moved (ga_ifs_ok q hq) hA, fun C hC => (h4 C hC).moved hA,
    by rw [hh]; exact h5.moved hA, by rw [hh]; exact h6.moved hA, fun q hq => by obtain ⟨a, ha⟩ := h7 q hq; exact ⟨a, ha.same hv⟩, by rw [hh]; exact h8.moved hA, by rw [hh]; exact h9.moved hA, by rw [hh]; exact h10, fun ty ht => ga_ao_moved hA (h11 ty ht), ga_Lw_moved (by rw [hv]; exact State.WarmedH.refl s) h12, h13.moved hA, ga_Iw_moved hA h14⟩
/-- a cell as the abstract heap has it; kind 99: an object of the lambda's class -/
def ga_at (G : ga_X) (q : Nat × va_E) (H : Heap) : Prop := va_at G.1 ga_cl q H ∨ ∃ fs : List Value, q.2 = .inr (99, fs) ∧ H[q.1]? = some { cls := G.2.2.1 11, slots := fs.toArray, vm := .none }
theorem ga_std_l {y : ClassId × vp_A} : ∀ fs : List Value, (Sum.inl y : va_E) ≠ .inr (99, fs) := fun _ h => by cases h
theorem ga_std_r {ci : Nat} {fs0 : List Value} {r : vw_C} (hc : ga_cl[ci]? = some r) : ∀ fs : List Value, (Sum.inr (ci, fs0) : va_E) ≠ .inr (99, fs) := fun fs h => by
  cases h
  cases hc
theorem ga_at.std {G : ga_X} {a : Nat} {x : va_E} {H : Heap} (h : ga_at G (a, x) H) (hx : ∀ fs : List Value, x ≠ .inr (99, fs)) : va_at G.1 ga_cl (a, x) H := by
  rcases h with h | ⟨fs, e, -⟩
  · exact h
  · exact absurd e (hx fs)
theorem ga_at.lt {G : ga_X} {a : Nat} {x : va_E} {H : Heap} (h : ga_at G (a, x) H) : a < H.size := by
  rcases h with h | ⟨fs, e, h⟩
  · exact h.lt
  · exact (Array.getElem?_eq_some_iff.mp h).1
theorem ga_at.kept {G : ga_X} {a : Nat} {x : va_E} {H H1 : Heap} (h : ga_at G (a, x) H) (hq : H1[a]? = H[a]?) : ga_at G (a, x) H1 := by
  rcases h with h | ⟨fs, e, h⟩
  · exact Or.inl (h.kept hq)
  · exact Or.inr ⟨fs, e, hq.trans h⟩
/-- the heap holds what the abstract heap says -/
def ga_M (G : ga_X) (h : ga_H) (n : Nat) (H : Heap) : Prop := H.size = n ∧ ∀ (a : Nat) (x : va_E), h a = some x → ga_at G (a, x) H
theorem ga_M.lt {G : ga_X} {h : ga_H} {n : Nat} {H : Heap} (hM : ga_M G h n H) {a : Nat} {x : va_E} (ha : h a = some x) : a < n := by
  have := (hM.2 a x ha).lt
  rw [hM.1] at this
  exact this
theorem ga_M.one {G : ga_X} {h : ga_H} {n : Nat} {H : Heap} (hM : ga_M G h n H) {a : Nat} {x : va_E} (ha : h a = some x) (hx : ∀ fs : List Value, x ≠ .inr (99, fs)) : va_P G.1 ga_cl [(a, x)] H := by
  intro k q hk
  have hz : k < 1 := (List.getElem?_eq_some_iff.mp hk).1
  rw [show k = 0 by omega] at hk
  cases hk
  exact (hM.2 a x ha).std hx
theorem ga_M.set {G : ga_X} {h : ga_H} {n : Nat} {H H1 : Heap} (hM : ga_M G h n H) {a : Nat} {x : va_E} (hz : H1.size = H.size) (hx : va_at G.1 ga_cl (a, x) H1) (ho : ∀ q : Nat, q ≠ a → H1[q]? = H[q]?) : ga_M G (ga_up h a x) n H1 := by
  refine ⟨hz.trans hM.1, fun b y hb => ?_⟩
  by_cases e : b = a
  · subst e
    rw [ga_up_s] at hb
    cases hb
    exact Or.inl hx
  · rw [ga_up_n e] at hb
    exact (hM.2 b y hb).kept (ho b e)
theorem ga_M.pushA {G : ga_X} {h : ga_H} {n : Nat} {H H1 : Heap} (hM : ga_M G h n H) {x : va_E} (hz : H1.size = n + 1) (hx : ga_at G (n, x) H1) (ho : ∀ q : Nat, q < n → H1[q]? = H[q]?) : ga_M G (ga_up h n x) (n + 1) H1 := by
  refine ⟨hz, fun b y hb => ?_⟩
  by_cases e : b = n
  · subst e
    rw [ga_up_s] at hb
    cases hb
    exact hx
  · rw [ga_up_n e] at hb
    exact (hM.2 b y hb).kept (ho b (hM.lt hb))
theorem ga_M.push {G : ga_X} {h : ga_H} {n : Nat} {H H1 : Heap} (hM : ga_M G h n H) {x : va_E} (hz : H1.size = n + 1) (hx : va_at G.1 ga_cl (n, x) H1) (ho : ∀ q : Nat, q < n → H1[q]? = H[q]?) : ga_M G (ga_up h n x) (n + 1) H1 := hM.pushA hz (Or.inl hx) ho
theorem ga_M.grow {G : ga_X} {h : ga_H} {n : Nat} {H H1 : Heap} (hM : ga_M G h n H) (ho : ∀ q : Nat, q < n → H1[q]? = H[q]?) : ga_M G h H1.size H1 :=
  ⟨rfl, fun b y hb => (hM.2 b y hb).kept (ho b (hM.lt hb))⟩
/-- the machine, at a frame of the method's, with the abstract heap h -/
def ga_W (Γ : ga_F) (H : Heap) (locs : List Loc) (cells slots : Nat) (g : JFrame) : Prop :=
  W Γ.1 Γ.2.1 Γ.2.2.1 Γ.2.2.2.1 Γ.2.2.2.2.1 Γ.2.2.2.2.2.1 Γ.2.2.2.2.2.2.1 Γ.2.2.2.2.2.2.2.1 Γ.2.2.2.2.2.2.2.2.1 Γ.2.2.2.2.2.2.2.2.2.1 H locs cells slots Γ.2.2.2.2.2.2.2.2.2.2 g
abbrev ga_l (Γ : ga_F) : Launch := Γ.2.1
abbrev ga_Rm (Γ : ga_F) : Room := Γ.2.2.2.1
abbrev ga_s (Γ : ga_F) : State := Γ.2.2.2.2.1
abbrev ga_m (Γ : ga_F) : MethodId := Γ.2.2.2.2.2.1
abbrev ga_a (Γ : ga_F) : Array Value := Γ.2.2.2.2.2.2.1
abbrev ga_b (Γ : ga_F) : List Frame := Γ.2.2.2.2.2.2.2.1
abbrev ga_mt (Γ : ga_F) : Method := Γ.2.2.2.2.2.2.2.2.1
abbrev ga_c (Γ : ga_F) : Code := Γ.2.2.2.2.2.2.2.2.2.1
abbrev ga_q (Γ : ga_F) : State → Prop := Γ.2.2.2.2.2.2.2.2.2.2
def ga (Γ : ga_F) (G : ga_X) (h : ga_H) (n cells slots pc : Nat) (lv : List (Nat × Value)) (st : List Value) : Prop :=
  ∀ ls : Array Slot, lv_has ls (ga_c Γ).maxLocals lv → ∀ (H : Heap) (locs : List Loc), ga_M G h n H → va_S (ga_A G) (ga_s Γ).heap H locs → ga_W Γ H locs cells slots (F0 (ga_m Γ) pc ls st)
/-- .. with an exception of the class E thrown over it -/
def ga_T (Γ : ga_F) (G : ga_X) (h : ga_H) (n cells slots pc : Nat) (lv : List (Nat × Value)) (E : String) : Prop :=
  ∀ ls : Array Slot, lv_has ls (ga_c Γ).maxLocals lv → ∀ (H : Heap) (locs : List Loc), ga_M G h n H → va_S (ga_A G) (ga_s Γ).heap H locs → ∀ (q : Addr) (ce : Cell), H[q]? = some ce → ce.vm = .none → (ga_s Γ).vm.findClass E = some ce.cls → ∀ rest : List Value,
    vx_W Γ.1 Γ.2.1 Γ.2.2.1 Γ.2.2.2.1 Γ.2.2.2.2.1 Γ.2.2.2.2.2.1 Γ.2.2.2.2.2.2.1 Γ.2.2.2.2.2.2.2.1 Γ.2.2.2.2.2.2.2.2.1 Γ.2.2.2.2.2.2.2.2.2.1 H locs cells slots Γ.2.2.2.2.2.2.2.2.2.2 (F0 (ga_m Γ) pc ls rest) q
/-- what is known all through a method's walk: own: its class, cc: its code -/
def ga_E (Γ : ga_F) (G : ga_X) (own : String) (cc : ByteArray) (nL : Nat) : Prop :=
  Γ.1.tables.exec = Jvm.exec ∧ (ga_c Γ).code = cc ∧ (ga_c Γ).maxLocals = nL ∧ (∀ w ∈ lw_all, w.before (ga_a Γ) (ga_s Γ) = true) ∧ (ga_s Γ).vm.findClass own = some (ga_m Γ).cls ∧ ga_K G (ga_s Γ) ∧ (ga_mt Γ).locks = false ∧ (ga_l Γ).stackTraces = false
def ga_Qc (G : ga_X) (Q : Option Value → ga_H → Nat → Prop) : Array Value → State → Outcome → State → Prop := fun _ st o t => ∃ (v : Option Value) (h : ga_H) (n : Nat), o = .returned v ∧ Q v h n ∧ ga_M G h n t.heap ∧ va_F (ga_A G) st t
def ga_Xc (G : ga_X) (X : String → ga_H → Nat → Prop) : String → State → State → Prop := fun E st t => ∃ (h : ga_H) (n : Nat), X E h n ∧ ga_M G h n t.heap ∧ va_F (ga_A G) st t
/-- what the method owes: ret: its type, Q: its answer and heap, X: the same where it throws, rm: its room -/
def ga_Y (Γ : ga_F) (G : ga_X) (ret : Option FieldType) (Q : Option Value → ga_H → Nat → Prop) (X : String → ga_H → Nat → Prop) (rm : Room) : Prop :=
  (ga_mt Γ).sig.returnType = ret ∧ ga_q Γ = vx_MQ (ga_b Γ) (ga_Qc G Q) (ga_Xc G X) (ga_a Γ) (ga_s Γ) rm.cells rm.slots (ga_A G) ∧ (ga_Rm Γ).frames = rm.frames ∧ (ga_Rm Γ).cells = rm.cells ∧ (ga_Rm Γ).slots = rm.slots ∧ (ga_Rm Γ).locals = rm.locals
/-- A CONTRACT: from any state with the heap h: y returns with Q, or throws with X -/
def ga_C (l : Launch) (G : ga_X) (y : MethodName) (b : ByteArray) (L : Nat) (r : Option FieldType) (rm : Room) (as : List Value) (h : ga_H) (n : Nat) (Q : Option Value → ga_H → Nat → Prop) (X : String → ga_H → Nat → Prop) : Prop :=
  vx_Met l y (ws_ y b L r) rm (va_Pc as (fun U => ga_M G h n U.heap ∧ ga_K G U)) (ga_Qc G Q) (ga_Xc G X) rm.cells rm.slots (ga_A G)
def ga_CW (l : Launch) (G : ga_X) (y : MethodName) (b : ByteArray) (L : Nat) (r : Option FieldType) (hh : List (Nat × Nat × Nat × Nat)) (rm : Room) (as : List Value) (h : ga_H) (n : Nat) (Q : Option Value → ga_H → Nat → Prop) (X : String → ga_H → Nat → Prop) : Prop :=
  vx_Met l y (wsW_ y b L r hh) rm (va_Pc as (fun U => ga_M G h n U.heap ∧ ga_K G U)) (ga_Qc G Q) (ga_Xc G X) rm.cells rm.slots (ga_A G)
def ga_no : String → ga_H → Nat → Prop := fun _ _ _ => False
theorem ga_start {l : Launch} {G : ga_X} {y : MethodName} {b : ByteArray} {L : Nat} {r : Option FieldType} {rm : Room} {as : List Value} {h : ga_H} {n : Nat} {Q : Option Value → ga_H → Nat → Prop} {X : String → ga_H → Nat → Prop}
    (hl : l.stackTraces = false) (hy : plainName y.cls = true) (hL : (lg_sl as).length ≤ L)
    (body : ∀ Γ : ga_F, ga_l Γ = l → ga_E Γ G y.cls b L → ga_Y Γ G r Q X rm → (ga_mt Γ).name = y.name → (∀ x ∈ (ga_c Γ).exceptionTable.toList, False) → ga Γ G h n 0 0 0 (lv_args 0 as) []) : ga_C l G y b L r rm as h n Q X := by
  refine vx_ofW (cc := b) (maxL := L) (ret := r) hy rfl ?_
  intro p e s m args below meth c s₁ B hml hx hv
  obtain ⟨rfl, hM, hK⟩ := hv
  have hts := atoms_spec (ws := ws_ y b L r) B.pre
  have hts : ∀ w ∈ lw_all, w.before _ s = true := fun w h => hts w (List.mem_cons_of_mem _ h)
  have hlv := lv_entry as (n := L) hL
  rw [lg_entry_eq]
  exact body (p, l, e, (headSpec (ws_ y b L r) rm).room, s, m, as.toArray, below, meth, c, _) rfl
    ⟨B.exec, B.bytes, hml, hts, findClass_of_methodNamed B.named, hK, B.notSynchronized, hl⟩ ⟨B.returns, rfl, rfl, rfl, rfl, rfl⟩ (name_of_methodNamed B.named B.method).1 hx _ (by show lv_has _ c.maxLocals _; rw [hml]; exact hlv) s.heap [] hM va_S.rf
theorem ga_startW {l : Launch} {G : ga_X} {y : MethodName} {b : ByteArray} {L : Nat} {r : Option FieldType} {hh : List (Nat × Nat × Nat × Nat)} {rm : Room} {as : List Value} {h : ga_H} {n : Nat} {Q : Option Value → ga_H → Nat → Prop} {X : String → ga_H → Nat → Prop}
    (hl : l.stackTraces = false) (hy : plainName y.cls = true) (hL : (lg_sl as).length ≤ L)
    (body : ∀ Γ : ga_F, ga_l Γ = l → ga_E Γ G y.cls b L → ga_Y Γ G r Q X rm → (ga_mt Γ).name = y.name → (ga_c Γ).exceptionTable.toList = tableOf hh → ga Γ G h n 0 0 0 (lv_args 0 as) []) : ga_CW l G y b L r hh rm as h n Q X := by
  refine vx_ofWH (cc := b) (maxL := L) (ret := r) (hh := hh) hy rfl ?_
  intro p e s m args below meth c s₁ B hml hv
  obtain ⟨rfl, hM, hK⟩ := hv
  have hts0 := atoms_spec (ws := wsW_ y b L r hh) B.pre
  have hts : ∀ w ∈ lw_all, w.before _ s = true := fun w h => hts0 w (List.mem_cons_of_mem _ h)
  have hx := vx_table (x := y) B (hts0 _ List.mem_cons_self)
  have hlv := lv_entry as (n := L) hL
  rw [lg_entry_eq]
  exact body (p, l, e, (headSpec (wsW_ y b L r hh) rm).room, s, m, as.toArray, below, meth, c, _) rfl
    ⟨B.exec, B.bytes, hml, hts, findClass_of_methodNamed B.named, hK, B.notSynchronized, hl⟩ ⟨B.returns, rfl, rfl, rfl, rfl, rfl⟩ (name_of_methodNamed B.named B.method).1 hx _ (by show lv_has _ c.maxLocals _; rw [hml]; exact hlv) s.heap [] hM va_S.rf
