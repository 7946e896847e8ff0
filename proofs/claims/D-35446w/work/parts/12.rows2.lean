/-! ROWS of arrays of references, casts, statics, interfaces, exceptions -/
set_option maxRecDepth 100000
/-- an object that may lie in a row of E -/
def ga_El (h : ga_H) (E : String) (v : Nat) : Prop := (∃ (ci : Nat) (fs : List Value) (r : vw_C), h v = some (ga_O ci fs) ∧ ga_cl[ci]? = some r ∧ (r.1 = E ∨ Cond.castable r.1 E ∈ lw_tbl)) ∨ (E = "GridMarket$Worth" ∧ ∃ fs : List Value, h v = some (.inr (99, fs)))
theorem ga_El.any {Γ : ga_F} {G : ga_X} {h : ga_H} {n : Nat} {own : String} {cc : ByteArray} {nL : Nat} (X : ga_E Γ G own cc nL) {E : String} {v : Nat} {H : Heap} (hv : ga_El h E v) (hM : ga_M G h n H) : va_Any E (ga_s Γ) H v := by
  rcases hv with ⟨ci, fs, r, h1, h2, h3⟩ | ⟨rfl, fs, h1⟩
  · refine va_rAny X.K.1 (hM.one h1 (ga_std_r h2)) (q0 := 0) rfl h2 (fun comp c0 g1 g2 => ?_)
    rcases h3 with h3 | h3
    · subst h3
      cases g1.symm.trans g2
      have hcl := (X.K.1.1 ci _ h2).2
      cases hcl.1.symm.trans g1
      exact va_assign hcl
    · exact vb_asgC (X.K.2.1 _ h3 rfl) comp c0 g1 g2
  · rcases hM.2 v _ h1 with h2 | ⟨fs', e, h2⟩
    · obtain ⟨r, h3, -⟩ := h2
      cases h3
    · obtain ⟨m, kc, cf, i0, p0, l, -, -, -, -, -, -, hmade, hcall, -⟩ := State.lambdaAt?_spec X.K.2.2.2.2.2.2.2.2.2.2.2.1
      obtain ⟨i, f1, f2, -⟩ := State.lambdaCallable_spec hcall
      obtain ⟨dk, k, ok, tk, file, cf2, ob, ifc, t, lay, ms, tg, fd, hh1, hh2, -⟩ := Lambda.isMade_spec hmade
      refine ⟨_, h2, rfl, ⟨k, hh2⟩, fun comp hc => ?_⟩
      cases f1.symm.trans hc
      exact f2
section GAR2
variable {Γ : ga_F} {G : ga_X} {h : ga_H} {n cells slots pc : Nat} {lv lv' : List (Nat × Value)} {st : List Value} {own : String} {cc : ByteArray} {nL : Nat} {ret : Option FieldType} {Qp : Option Value → ga_H → Nat → Prop} {Xp : String → ga_H → Nat → Prop} {rm : Room}
theorem ga_aald (X : ga_E Γ G own cc nL) {a N k : Nat} {ty : FieldType} {f : Nat → Option Nat} {i : Int32} (j : Nat) (hi : i = nI j) (hj : j < N) (hN : N < 2147483648) (hty : (ga_tys G)[k]? = some (G.2.2.1 k, ty)) (href : ty.isReference = true) (ha : h a = some (ga_R G k N f)) (hdg : decode cc pc = .ok (.aaload, 1)) {v : Value} (hv : va_rf (f j) = v) (kk : ga Γ G h n cells slots (pc + 1) lv (v :: st)) : ga Γ G h n cells slots pc lv (.int i :: .ref a :: st) := fun ls hl H locs hM hS => by
  subst hi; subst hv
  refine W.aald (v := va_rf (f j)) (ty := ty) X.1 X.2.1 ((hM.2 a _ ha).std ga_std_l) ((X.K.1.2 k _ hty).1 N (fun j => va_rf (f j))) href (fun q => by cases q) (by show ¬ (nI j < 0 ∨ (arrV _ _ _).slots.size ≤ _); rw [arrV_size]; exact vp_in_nI hj hN) (by show (arrV _ _ _).slots[_]? = _; rw [nI_clamp (Nat.lt_trans hj hN), arrV_read _ _ hj]) rfl rfl hdg (kk ls hl H locs hM hS)
theorem ga_aast (X : ga_E Γ G own cc nL) {a N k v : Nat} {E : String} {f : Nat → Option Nat} {i : Int32} (j : Nat) (hi : i = nI j) (hj : j < N) (hN : N < 2147483648) (hty : (ga_tys G)[k]? = some (G.2.2.1 k, .object E)) (hv : ga_El h E v) (ha : h a = some (ga_R G k N f)) (hA : G.2.1 ≤ a) (hdg : decode cc pc = .ok (.aastore, 1)) (kk : ga Γ G (ga_up h a (ga_R G k N (va_up f j (some v)))) n cells slots (pc + 1) lv st) : ga Γ G h n cells slots pc lv (.ref v :: .int i :: .ref a :: st) := by
  subst hi
  intro ls hl H locs hM hS
  obtain ⟨cellV, g1, g3, ⟨kC, hkC⟩, hasg⟩ := hv.any X hM
  obtain ⟨kA, comp, k1, k2, k3, -⟩ := (X.K.1.2 k _ hty).2
  obtain ⟨kE, hkE, -⟩ := Vm.findClass_spec k3
  refine W.aast X.1 X.2.1 ((hM.2 a _ ha).std ga_std_l) (fun q h => by cases h) (fun h => by cases h) k1 k2 rfl hkE ⟨nI_pos (Nat.lt_trans hj hN), by show _ < (arrV _ _ _).slots.size; rw [arrV_size, nI_clamp (Nat.lt_trans hj hN)]; exact hj⟩ g1 (fun q h => by rw [h] at g3; cases g3) hkC (hasg _ k3) rfl rfl hdg fun H1 e z oq => ?_
  refine kk ls hl H1 _ (hM.set z ?_ oq) (hS.put z oq hA)
  show H1[a]? = some (vp_cell _ _)
  rw [e]
  rw [vp_cell_q, vp_cell_q, arrV_store, nI_clamp (Nat.lt_trans hj hN)]
  congr 2
  funext q
  by_cases hq : q = j
  · subst hq
    simp [updV, va_up, va_rf]
  · simp [updV, va_up, hq]
/-- an array of references, made; k: its place in ga_tys -/
theorem ga_anew (X : ga_E Γ G own cc nL) (Y : ga_Y Γ G ret Qp Xp rm) {C : String} {index k : Nat} (hty : (ga_tys G)[k]? = some (G.2.2.1 k, .object C)) (hC : C ∈ ga_aos) (hcl : Cond.classLink own index C ∈ lw_all) {i : Int32} (N : Nat) (hi : i = nI N) (hN : N ≤ 60000) (hc : cells + 1 ≤ rm.cells) (hs : slots + N ≤ rm.slots) (hdg : decode cc pc = .ok (.anewarray index, 3))
    (kk : ga Γ G (ga_up h n (ga_R G k N (fun _ => none))) (n + 1) (cells + 1) (slots + N) (pc + 3) lv (.ref n :: st)) : ga Γ G h n cells slots pc lv (.int i :: st) := by
  subst hi
  intro ls hl H locs hM hS
  have hlt : N < 2 ^ 31 := by omega
  have hcN : (nI N).toNatClampNeg = N := nI_clamp hlt
  refine W.anew X.1 X.2.1 X.ow (X.hts hcl) (va_AO.use (X.K.2.2.2.1 C hC)) rfl hdg rfl (nI_pos hlt) (by rw [hcN]; omega) (by rw [Y.2.2.2.1]; exact hc) (by rw [hcN, Y.2.2.2.2.1]; exact hs) fun cA kA comp f1 f2 f3 f4 => ?_
  rw [hcN]
  generalize hH1 : H.push ({ cls := cA, slots := Array.replicate N .null, vm := .none } : Cell) = H1
  have z1 : H1.size = n + 1 := by rw [← hH1, Array.size_push, hM.1]
  have e1 : H1[n]? = some (arrV cA N (fun _ => .null)) := by rw [← hH1, ← hM.1, Array.getElem?_push_size, ← arrV_new]
  have o1 : ∀ q : Nat, q < n → H1[q]? = H[q]? := fun q hq => by rw [← hH1, Array.getElem?_push, if_neg (Nat.ne_of_lt (by rw [hM.1]; exact hq))]
  obtain ⟨kB, comp2, r1, r2, r3, r4⟩ := (X.K.1.2 k _ hty).2
  cases f1.symm.trans r4
  rw [show ({ F0 (ga_m Γ) pc ls (.int (nI N) :: st) with pc := (F0 (ga_m Γ) pc ls (.int (nI N) :: st)).pc + 3, stack := .ref H.size :: st } : JFrame) = F0 (ga_m Γ) (pc + 3) ls (.ref n :: st) by rw [hM.1]]
  refine kk ls hl H1 locs (hM.push z1 ?_ o1) ⟨Nat.le_trans hS.1 (by rw [z1, hM.1]; omega), fun q h1 h2 => (o1 q (by have := hS.1; rw [hM.1] at this; omega)).trans (hS.2.1 q h1 h2), hS.2.2⟩
  show H1[n]? = some (vp_cell _ _)
  rw [vp_cell_q]
  exact e1
/-- a cast to the object's own class -/
theorem ga_cast (X : ga_E Γ G own cc nL) {C : String} {T : u_T} {N ci index a : Nat} {fs : List Value} (hc : ga_cl[ci]? = some (C, T, N)) (hcl : Cond.classLink own index C ∈ lw_all) (ha : h a = some (ga_O ci fs)) (hdg : decode cc pc = .ok (.checkcast index, 3)) (kk : ga Γ G h n cells slots (pc + 3) lv (.ref a :: st)) : ga Γ G h n cells slots pc lv (.ref a :: st) := fun ls hl H locs hM hS =>
  va_castS X.1 X.2.1 X.ow (X.hts hcl) (X.K.1.1 ci _ hc).2 (va_recv X.K.1 (hM.one ha (ga_std_r hc)) (q0 := 0) hc rfl) hdg (kk ls hl H locs hM hS)
theorem ga_acmp_eq (X : ga_E Γ G own cc nL) {rx ry : Option Nat} {vx vy : Value} (hx : va_rf rx = vx) (hy : va_rf ry = vy) {off : Int} {tgt : Nat} (hdg : decode cc pc = .ok (.if_acmp .eq off, 3)) (ht : (pc : Int) + off = (tgt : Int)) (kt : rx = ry → ga Γ G h n cells slots tgt lv st) (kf : ¬ rx = ry → ga Γ G h n cells slots (pc + 3) lv st) : ga Γ G h n cells slots pc lv (vy :: vx :: st) := fun ls hl H locs hM hS => by
  subst hx; subst hy
  exact lv_acmp_eq X.1 X.2.1 hdg ht (fun c => kt c ls hl H locs hM hS) (fun c => kf c ls hl H locs hM hS)
theorem ga_acmp_ne (X : ga_E Γ G own cc nL) {rx ry : Option Nat} {vx vy : Value} (hx : va_rf rx = vx) (hy : va_rf ry = vy) {off : Int} {tgt : Nat} (hdg : decode cc pc = .ok (.if_acmp .ne off, 3)) (ht : (pc : Int) + off = (tgt : Int)) (kt : ¬ rx = ry → ga Γ G h n cells slots tgt lv st) (kf : rx = ry → ga Γ G h n cells slots (pc + 3) lv st) : ga Γ G h n cells slots pc lv (vy :: vx :: st) := fun ls hl H locs hM hS => by
  subst hx; subst hy
  exact lv_acmp_ne X.1 X.2.1 hdg ht (fun c => kt c ls hl H locs hM hS) (fun c => kf c ls hl H locs hM hS)
/-- the empty row of ArrayList's -/
theorem ga_gs0 (X : ga_E Γ G own cc nL) {index : Nat} (hlink : Cond.fieldLink own index "java/util/ArrayList" "DEFAULTCAPACITY_EMPTY_ELEMENTDATA" "[Ljava/lang/Object;" ∈ lw_all) (hdg : decode cc pc = .ok (.getstatic index, 3)) (kk : ga Γ G h n cells slots (pc + 3) lv (.ref (G.2.2.2 0) :: st)) : ga Γ G h n cells slots pc lv st := fun ls hl H locs hM hS =>
  va_gets X.1 X.2.1 X.K.2.2.2.2.2.2.2.1 hS X.ow (X.hts hlink) (fun _ q => q) hdg (kk ls hl H locs hM hS)
theorem ga_len0 (X : ga_E Γ G own cc nL) (hdg : decode cc pc = .ok (.arraylength, 1)) (kk : ga Γ G h n cells slots (pc + 1) lv (.int 0 :: st)) : ga Γ G h n cells slots pc lv (.ref (G.2.2.2 0) :: st) := fun ls hl H locs hM hS =>
  va_tlen X.1 X.2.1 X.K.2.2.2.2.2.2.2.2.1 hS rfl hdg (kk ls hl H locs hM hS)
theorem ga_e0 (X : ga_E Γ G own cc nL) : ¬ G.2.1 ≤ G.2.2.2 0 := X.K.2.2.2.2.2.2.2.2.1.out
theorem ga_ldcM (X : ga_E Γ G own cc nL) {index : Nat} (hlink : Cond.classLink own index "[Ljava/lang/Object;" ∈ lw_all) (hdg : decode cc pc = .ok (.ldc index, 2)) (kk : ga Γ G h n cells slots (pc + 2) lv (.ref (G.2.2.2 1) :: st)) : ga Γ G h n cells slots pc lv st := fun ls hl H locs hM hS =>
  va_ldcM X.1 X.2.1 X.ow (X.hts hlink) X.K.2.2.2.2.2.2.2.2.2.2.2.2.1 hdg (kk ls hl H locs hM hS)
/-- getClass of a row of Objects -/
theorem ga_getC (X : ga_E Γ G own cc nL) (Y : ga_Y Γ G ret Qp Xp rm) {index a N : Nat} {f : Nat → Option Nat} (hlink : Cond.methodLink own index ⟨"java/lang/Object", "getClass", "()Ljava/lang/Class;"⟩ ∈ lw_all) (hdecl : Cond.declares ⟨"java/lang/Object", "getClass", "()Ljava/lang/Class;"⟩ ∈ lw_tbl) (hsel : Cond.selects "[Ljava/lang/Object;" ⟨"java/lang/Object", "getClass", "()Ljava/lang/Class;"⟩ ⟨"java/lang/Object", "getClass", "()Ljava/lang/Class;"⟩ ∈ lw_all) (hinst : Cond.instanceMethod ⟨"java/lang/Object", "getClass", "()Ljava/lang/Class;"⟩ ∈ lw_all) (hnat : Cond.native ⟨"java/lang/Object", "getClass", "()Ljava/lang/Class;"⟩ ∈ lw_all)
    (ha : h a = some (ga_R G 3 N f)) (hframes : 1 ≤ rm.frames) (hlocals : 22 ≤ rm.locals) (hw : (st.map fun v => v.category).sum ≤ 8) (hdg : decode cc pc = .ok (.invokevirtual index, 3)) (kk : ga Γ G h n cells slots (pc + 3) lv (.ref (G.2.2.2 1) :: st)) : ga Γ G h n cells slots pc lv (.ref a :: st) := fun ls hl H locs hM hS =>
  va_getC X.1 X.2.1 hl.1.symm X.ow (X.hts hlink) (X.nw hdecl rfl) (X.hts hsel) (X.hts hinst) (X.hts hnat) X.K.2.2.2.2.2.2.2.2.2.2.2.2.1
    ⟨_, (hM.2 a _ ha).std ga_std_l, rfl, va_nmO (X.K.1.2 3 _ rfl).2 (by decide)⟩ (by rw [Y.2.2.1]; exact hframes) (by rw [Y.2.2.2.2.2]; omega) hdg (kk ls hl H locs hM hS)
theorem ga_getS (X : ga_E Γ G own cc nL) {ref C : String} {T : u_T} {N ci index a : Nat} {fs : List Value} {v : Value} (hin : ∀ w ∈ u_ws C T N, w ∈ lw_all) (hc : ga_cl[ci]? = some (C, T, N)) (k : Nat) (hk : k < N) (hlink : Cond.fieldLink own index ref (T k).2.1 (T k).2.2.1 ∈ lw_all) (hsm : Cond.sameField ref (T k).1 (T k).2.1 (T k).2.2.1 ∈ lw_all) (ha : h a = some (ga_O ci fs)) (hv : fs[k]? = some v) (hdg : decode cc pc = .ok (.getfield index, 3))
    (kk : ga Γ G h n cells slots (pc + 3) lv (v :: st)) : ga Γ G h n cells slots pc lv (.ref a :: st) := fun ls hl H locs hM hS =>
  va_get X.1 X.2.1 X.2.2.2.1 hin X.ow X.K.1 (hM.one ha (ga_std_r hc)) 0 rfl hc k hk (X.hts hlink) (fun x hx => u_same (X.hts hsm) x hx) hv hdg (kk ls hl H locs hM hS)
theorem ga_putS (X : ga_E Γ G own cc nL) {ref C : String} {T : u_T} {N ci index a : Nat} {fs fs' : List Value} {v : Value} (hin : ∀ w ∈ u_ws C T N, w ∈ lw_all) (ty0 : Nat → FieldType) (hty : ∀ k, k < N → parseFieldDescriptor (T k).2.2.1 = some (ty0 k)) (hnm : ∀ a, a < N → ∀ b, b < N → a ≠ b → (T a).2.1 ≠ (T b).2.1) (hc : ga_cl[ci]? = some (C, T, N)) (k : Nat) (hk : k < N) (hlink : Cond.fieldLink own index ref (T k).2.1 (T k).2.2.1 ∈ lw_all) (hsm : Cond.sameField ref (T k).1 (T k).2.1 (T k).2.2.1 ∈ lw_all) (hfin : (T k).2.2.2 = false) (ha : h a = some (ga_O ci fs)) (hA : G.2.1 ≤ a) (hn : narrow (ty0 k) v = v) (hfit : fits (ty0 k) v = true) (hl : k < fs.length) (e : fs.set k v = fs') (hdg : decode cc pc = .ok (.putfield index, 3))
    (kk : ga Γ G (ga_up h a (ga_O ci fs')) n cells slots (pc + 3) lv st) : ga Γ G h n cells slots pc lv (v :: .ref a :: st) := by
  subst e
  intro ls hls H locs hM hS
  have hK := X.K.1
  have hts := X.2.2.2.1
  have hap := va_apart (own := own) hts hin ty0 hty hnm hK hc
  obtain ⟨r, h1, cell, q1, q2, q3, q4⟩ := (hM.2 a _ ha).std (ga_std_r hc)
  have hr : r = (C, T, N) := Option.some.inj (h1.symm.trans hc)
  subst hr
  obtain ⟨hSl, hfc, kC, hkC, hkind⟩ := hK.1 ci _ hc
  obtain ⟨cf, kf, fi, f, hi, hsl⟩ := hSl k hk
  have hlay := hts _ (hin _ (u_in_lay hk))
  unfold u_lay at hlay
  rw [if_neg (by rw [hfin]; decide)] at hlay
  have hst := (u_facts hfc hkC (u_lays hts hin hk) hi).1
  have h6 := u_store hfc hkC hkind hlay hi (hty k hk) hn hfit
  refine W.putK X.1 X.2.1 (f := f) ⟨X.ow, X.hts hlink, ⟨_, _, _, u_same (X.hts hsm) _ hi⟩, hst⟩ (by rw [q2]; exact h6) q1 q3 (by rw [hsl]; exact k2_hasslot (q4 k hk)) rfl rfl hdg fun H' e1 e2 e3 => ?_
  rw [hsl] at e1 ⊢
  exact kk ls hls H' _ (hM.set e2 ⟨_, hc, t_OB.to (V := updV (vp_V fs) k v) ⟨_, e1, q2, q3, t_set q4 hap hk v⟩ (fun j _ => vp_updV_set hl v j)⟩ e3) (hS.put e2 e3 hA)
/-- with the new list said -/
theorem ga_putE (X : ga_E Γ G own cc nL) {ref C : String} {T : u_T} {N ci index a : Nat} {fs fs' : List Value} {v : Value} (hin : ∀ w ∈ u_ws C T N, w ∈ lw_all) (ty0 : Nat → FieldType) (hty : ∀ k, k < N → parseFieldDescriptor (T k).2.2.1 = some (ty0 k)) (hnm : ∀ a, a < N → ∀ b, b < N → a ≠ b → (T a).2.1 ≠ (T b).2.1) (hc : ga_cl[ci]? = some (C, T, N)) (k : Nat) (hk : k < N) (hlink : Cond.fieldLink own index ref (T k).2.1 (T k).2.2.1 ∈ lw_all) (href : (T k).1 = ref) (hfin : (T k).2.2.2 = false) (ha : h a = some (ga_O ci fs)) (hA : G.2.1 ≤ a) (hn : narrow (ty0 k) v = v) (hfit : fits (ty0 k) v = true) (hl : k < fs.length) (e : fs.set k v = fs') (hdg : decode cc pc = .ok (.putfield index, 3))
    (kk : ga Γ G (ga_up h a (ga_O ci fs')) n cells slots (pc + 3) lv st) : ga Γ G h n cells slots pc lv (v :: .ref a :: st) := by
  subst e
  exact ga_put X hin ty0 hty hnm hc k hk hlink href hfin ha hA hn hfit hl hdg kk
theorem ga_putNE (X : ga_E Γ G own cc nL) {ref C host : String} {T : u_T} {N ci index a : Nat} {fs fs' : List Value} {v : Value} (hin : ∀ w ∈ u_ws C T N, w ∈ lw_all) (ty0 : Nat → FieldType) (hty : ∀ k, k < N → parseFieldDescriptor (T k).2.2.1 = some (ty0 k)) (hnm : ∀ a, a < N → ∀ b, b < N → a ≠ b → (T a).2.1 ≠ (T b).2.1) (hc : ga_cl[ci]? = some (C, T, N)) (k : Nat) (hk : k < N) (hlink : Cond.fieldLinkNest own index ref (T k).2.1 (T k).2.2.1 host ∈ lw_tbl) (href : (T k).1 = ref) (hfin : (T k).2.2.2 = false) (ha : h a = some (ga_O ci fs)) (hA : G.2.1 ≤ a) (hn : narrow (ty0 k) v = v) (hfit : fits (ty0 k) v = true) (hl : k < fs.length) (e : fs.set k v = fs') (hdg : decode cc pc = .ok (.putfield index, 3))
    (kk : ga Γ G (ga_up h a (ga_O ci fs')) n cells slots (pc + 3) lv st) : ga Γ G h n cells slots pc lv (v :: .ref a :: st) := by
  subst e
  exact ga_putN X hin ty0 hty hnm hc k hk hlink href hfin ha hA hn hfit hl hdg kk
theorem ga_putFE (X : ga_E Γ G own cc nL) {C : String} {T : u_T} {N ci index a : Nat} {fs fs' : List Value} {v : Value} (hin : ∀ w ∈ u_ws C T N, w ∈ lw_all) (ty0 : Nat → FieldType) (hty : ∀ k, k < N → parseFieldDescriptor (T k).2.2.1 = some (ty0 k)) (hnm : ∀ a, a < N → ∀ b, b < N → a ≠ b → (T a).2.1 ≠ (T b).2.1) (hc : ga_cl[ci]? = some (C, T, N)) (k : Nat) (hk : k < N) (hlink : Cond.fieldLink own index (T k).1 (T k).2.1 (T k).2.2.1 ∈ lw_all) (hfin : (T k).2.2.2 = true) (hini : (ga_mt Γ).name = "<init>") (hdecl : (T k).1 = own) (ha : h a = some (ga_O ci fs)) (hA : G.2.1 ≤ a) (hn : narrow (ty0 k) v = v) (hfit : fits (ty0 k) v = true) (hl : k < fs.length) (e : fs.set k v = fs') (hdg : decode cc pc = .ok (.putfield index, 3))
    (kk : ga Γ G (ga_up h a (ga_O ci fs')) n cells slots (pc + 3) lv st) : ga Γ G h n cells slots pc lv (v :: .ref a :: st) := by
  subst e
  exact ga_putF X hin ty0 hty hnm hc k hk hlink hfin hini hdecl ha hA hn hfit hl hdg kk
/-- System.arraycopy of ints, from place 0 to place 0 .. -/
theorem ga_copyi (X : ga_E Γ G own cc nL) (Y : ga_Y Γ G ret Qp Xp rm) {index a0 a1 n0 n1 : Nat} {f g : Nat → Int32} (hlink : Cond.methodLink own index arraycopyName ∈ lw_all) (hnat : Cond.native arraycopyName ∈ lw_all) (hstat : Cond.static arraycopyName ∈ lw_all) (hini : Cond.initialized "java/lang/System" ∈ lw_all) (ha0 : h a0 = some (ga_I G n0 f)) (ha1 : h a1 = some (ga_I G n1 g)) (hA : G.2.1 ≤ a1)
    {xs xd xn : Int32} (sp dp N : Nat) (e1 : xs = nI sp) (e2 : xd = nI dp) (e3 : xn = nI N) (h4 : sp + N ≤ n0) (h5 : dp + N ≤ n1) (hb0 : n0 < 2147483648) (hb1 : n1 < 2147483648) (hframes : 1 ≤ rm.frames) (hlocals : 40 ≤ rm.locals) (hw : (st.map fun v => v.category).sum ≤ 8) (hdg : decode cc pc = .ok (.invokestatic index, 3))
    (kk : ga Γ G (ga_up h a1 (ga_I G n1 (va_cpy f g sp dp N))) n cells slots (pc + 3) lv st) : ga Γ G h n cells slots pc lv (.int xn :: .int xd :: .ref a1 :: .int xs :: .ref a0 :: st) := by
  subst e1; subst e2; subst e3
  intro ls hl H locs hM hS T hT XT
  have hc0 : H[a0]? = some (vp_cell (G.2.2.1 0) (n0, .inl f)) := (hM.2 a0 _ ha0).std ga_std_l
  have hc1 : H[a1]? = some (vp_cell (G.2.2.1 0) (n1, .inl g)) := (hM.2 a1 _ ha1).std ga_std_l
  obtain ⟨-, k0, hk0, cm0, hkk0⟩ := (X.K.1.2 0 _ rfl).1 n0 (fun j => .int (f j))
  have cs : (nI sp).toNatClampNeg = sp := nI_clamp (by omega)
  have cd : (nI dp).toNatClampNeg = dp := nI_clamp (by omega)
  have cn : (nI N).toNatClampNeg = N := nI_clamp (by omega)
  obtain ⟨vm', X', step⟩ := XT.arraycopy X.1 X.ow (X.hts hlink) (X.hts hnat) (X.hts hstat) (X.hts hini) (src := a0) (dst := a1) (cs := vp_cell (G.2.2.1 0) (n0, .inl f)) (cd := vp_cell (G.2.2.1 0) (n1, .inl g)) (srcPos := nI sp) (destPos := nI dp) (n := nI N) (by rw [hT]; exact hc0) (by rw [hT]; exact hc1)
    (fun _ h => by cases h) (fun _ h => by cases h) (fun h => by cases h) (fun h => by cases h) hk0 hk0 hkk0 hkk0 (by simp [refKind]) (nI_pos (by omega)) (nI_pos (by omega)) (nI_pos (by omega))
    (by rw [nI_toInt (by omega), nI_toInt (by omega)]; show ¬ _ > ((arrV _ n0 (fun j => .int (f j))).slots.size : Int); rw [arrV_size]; omega)
    (by rw [nI_toInt (by omega), nI_toInt (by omega)]; show ¬ _ > ((arrV _ n1 (fun j => .int (g j))).slots.size : Int); rw [arrV_size]; omega)
    (fun vm₁ _ i hi => by
      rw [cn] at hi
      have e : (vp_cell (G.2.2.1 0) (n0, .inl f)).slots.getD ((nI sp).toNatClampNeg + i) .null = .int (f (sp + i)) := by
        show (arrV _ n0 (fun j => .int (f j))).slots.getD _ _ = _
        rw [cs, Array.getD_eq_getD_getElem?, arrV_read _ _ (by omega)]
        rfl
      refine ⟨?_, ?_⟩
      · rw [e]
        rfl
      · rw [e]
        exact trivial)
    (g := F0 (ga_m Γ) pc ls (.int (nI N) :: .int (nI dp) :: .ref a1 :: .int (nI sp) :: .ref a0 :: st)) rfl (by show ls.size = _; exact hl.1) (rest := st) rfl (by rw [X.2.1]; exact hdg) (by rw [Y.2.2.1]; exact hframes) (by show 2 * 0 + _ + _ ≤ _; have hz : nativeFrameWords "java/lang/System" "arraycopy" 5 + 11 ≤ 32 := (by decide); rw [Y.2.2.2.2.2]; omega)
  have e1 : copied (vp_cell (G.2.2.1 0) (n0, .inl f)) (vp_cell (G.2.2.1 0) (n1, .inl g)) (nI sp) (nI dp) (nI N) = vp_cell (G.2.2.1 0) (n1, .inl (va_cpy f g sp dp N)) := by
    have q := va_copied (sp := (nI sp).toNatClampNeg) (dp := (nI dp).toNatClampNeg) (n := (nI N).toNatClampNeg) (fun z => .int z) (G.2.2.1 0) (G.2.2.1 0) (n1 := n1) f g (n0 := n0) (by rw [cs, cn]; exact h4)
    rw [cs, cd, cn] at q
    rw [vp_cell_i, vp_cell_i, vp_cell_i]
    unfold copied
    rw [cs, cd, cn]
    exact q
  rw [e1] at X' step
  have hlt : a1 < H.size := (Array.getElem?_eq_some_iff.mp hc1).1
  have hheap : ((T.setVm vm').setCell a1 (vp_cell (G.2.2.1 0) (n1, .inl (va_cpy f g sp dp N)))).heap = H.setIfInBounds a1 (vp_cell (G.2.2.1 0) (n1, .inl (va_cpy f g sp dp N))) := by rw [← hT]; rfl
  have oq : ∀ q : Nat, q ≠ a1 → (H.setIfInBounds a1 (vp_cell (G.2.2.1 0) (n1, .inl (va_cpy f g sp dp N))))[q]? = H[q]? := fun q hq => by simp [Array.getElem?_setIfInBounds, Ne.symm hq]
  obtain ⟨t, a2, b2⟩ := kk ls hl _ _ (hM.set (by simp) (show (H.setIfInBounds a1 _)[a1]? = some _ by simp [Array.getElem?_setIfInBounds, hlt]) oq) ⟨by simp; exact hS.1, fun q g1 g2 => by
      rw [oq q (fun e => g2 (by rw [e]; exact hA))]
      exact hS.2.1 q g1 g2, fun q hq => by
      rcases List.mem_append.mp hq with h | h
      · exact hS.2.2 q h
      · obtain ⟨z, -, hz⟩ := List.mem_map.mp h
        rw [← hz]
        exact hA⟩ _ hheap X'
  exact ⟨t, step t a2, b2⟩
/-- .. of references, in rows of Objects -/
theorem ga_copyr (X : ga_E Γ G own cc nL) (Y : ga_Y Γ G ret Qp Xp rm) {index a0 a1 n0 n1 : Nat} {f g : Nat → Option Nat} (hlink : Cond.methodLink own index arraycopyName ∈ lw_all) (hnat : Cond.native arraycopyName ∈ lw_all) (hstat : Cond.static arraycopyName ∈ lw_all) (hini : Cond.initialized "java/lang/System" ∈ lw_all) (ha0 : h a0 = some (ga_R G 3 n0 f)) (ha1 : h a1 = some (ga_R G 3 n1 g)) (hA : G.2.1 ≤ a1)
    {xs xd xn : Int32} (sp dp N : Nat) (e1 : xs = nI sp) (e2 : xd = nI dp) (e3 : xn = nI N) (h4 : sp + N ≤ n0) (h5 : dp + N ≤ n1) (hb0 : n0 < 2147483648) (hb1 : n1 < 2147483648) (hel : ∀ i : Nat, i < N → ∀ y : Nat, f (sp + i) = some y → ga_El h "java/lang/Object" y) (hframes : 1 ≤ rm.frames) (hlocals : 40 ≤ rm.locals) (hw : (st.map fun v => v.category).sum ≤ 8) (hdg : decode cc pc = .ok (.invokestatic index, 3))
    (kk : ga Γ G (ga_up h a1 (ga_R G 3 n1 (va_cpy f g sp dp N))) n cells slots (pc + 3) lv st) : ga Γ G h n cells slots pc lv (.int xn :: .int xd :: .ref a1 :: .int xs :: .ref a0 :: st) := by
  subst e1; subst e2; subst e3
  intro ls hl H locs hM hS T hT XT
  have hc0 : H[a0]? = some (vp_cell (G.2.2.1 3) (n0, .inr (.inr (.inr (.inr f))))) := (hM.2 a0 _ ha0).std ga_std_l
  have hc1 : H[a1]? = some (vp_cell (G.2.2.1 3) (n1, .inr (.inr (.inr (.inr g))))) := (hM.2 a1 _ ha1).std ga_std_l
  obtain ⟨-, k0, hk0, cm0, hkk0⟩ := (X.K.1.2 3 _ rfl).1 n0 (fun j => va_rf (f j))
  have cs : (nI sp).toNatClampNeg = sp := nI_clamp (by omega)
  have cd : (nI dp).toNatClampNeg = dp := nI_clamp (by omega)
  have cn : (nI N).toNatClampNeg = N := nI_clamp (by omega)
  obtain ⟨vm', X', step⟩ := XT.arraycopy X.1 X.ow (X.hts hlink) (X.hts hnat) (X.hts hstat) (X.hts hini) (src := a0) (dst := a1) (cs := vp_cell (G.2.2.1 3) (n0, .inr (.inr (.inr (.inr f))))) (cd := vp_cell (G.2.2.1 3) (n1, .inr (.inr (.inr (.inr g))))) (srcPos := nI sp) (destPos := nI dp) (n := nI N) (by rw [hT]; exact hc0) (by rw [hT]; exact hc1)
    (fun _ h => by cases h) (fun _ h => by cases h) (fun h => by cases h) (fun h => by cases h) hk0 hk0 hkk0 hkk0 rfl (nI_pos (by omega)) (nI_pos (by omega)) (nI_pos (by omega))
    (by rw [nI_toInt (by omega), nI_toInt (by omega)]; show ¬ _ > ((arrV _ n0 (fun j => va_rf (f j))).slots.size : Int); rw [arrV_size]; omega)
    (by rw [nI_toInt (by omega), nI_toInt (by omega)]; show ¬ _ > ((arrV _ n1 (fun j => va_rf (g j))).slots.size : Int); rw [arrV_size]; omega)
    (fun vm₁ hal i hi => by
      rw [cn] at hi
      have e : (vp_cell (G.2.2.1 3) (n0, .inr (.inr (.inr (.inr f))))).slots.getD ((nI sp).toNatClampNeg + i) .null = va_rf (f (sp + i)) := by
        show (arrV _ n0 (fun j => va_rf (f j))).slots.getD _ _ = _
        rw [cs, Array.getD_eq_getD_getElem?, arrV_read _ _ (by omega)]
        rfl
      rw [e]
      cases hy : f (sp + i) with
      | none => exact ⟨rfl, trivial⟩
      | some y =>
        obtain ⟨cellV, g1, g2, ⟨kC, hkC⟩, hasg⟩ := (hel i hi y hy).any X hM
        obtain ⟨kA, comp, r1, r2, r3, -⟩ := (X.K.1.2 3 _ rfl).2
        cases hk0.symm.trans r1
        cases hkk0.symm.trans r2
        obtain ⟨kE, hkE, -⟩ := Vm.findClass_spec r3
        obtain ⟨kC', hkC', -⟩ := hal.2.2 _ _ hkC
        obtain ⟨kE', hkE', -⟩ := hal.2.2 _ _ hkE
        refine ⟨rfl, cellV, (show T.heap[y]? = some cellV by rw [hT]; exact g1), (fun q h => by rw [h] at g2; cases g2), ⟨kC', hkC'⟩, ?_, ?_⟩
        · exact ⟨kE', hkE'⟩
        · show vm₁.assignable _ _ = true
          rw [hal.assignable]
          exact hasg _ r3)
    (g := F0 (ga_m Γ) pc ls (.int (nI N) :: .int (nI dp) :: .ref a1 :: .int (nI sp) :: .ref a0 :: st)) rfl (by show ls.size = _; exact hl.1) (rest := st) rfl (by rw [X.2.1]; exact hdg) (by rw [Y.2.2.1]; exact hframes) (by show 2 * 0 + _ + _ ≤ _; have hz : nativeFrameWords "java/lang/System" "arraycopy" 5 + 11 ≤ 32 := (by decide); rw [Y.2.2.2.2.2]; omega)
  have e1 : copied (vp_cell (G.2.2.1 3) (n0, .inr (.inr (.inr (.inr f))))) (vp_cell (G.2.2.1 3) (n1, .inr (.inr (.inr (.inr g))))) (nI sp) (nI dp) (nI N) = vp_cell (G.2.2.1 3) (n1, .inr (.inr (.inr (.inr (va_cpy f g sp dp N))))) := by
    have q := va_copied (sp := (nI sp).toNatClampNeg) (dp := (nI dp).toNatClampNeg) (n := (nI N).toNatClampNeg) (fun z => va_rf z) (G.2.2.1 3) (G.2.2.1 3) (n1 := n1) f g (n0 := n0) (by rw [cs, cn]; exact h4)
    rw [cs, cd, cn] at q
    rw [vp_cell_q, vp_cell_q, vp_cell_q]
    unfold copied
    rw [cs, cd, cn]
    exact q
  rw [e1] at X' step
  have hlt : a1 < H.size := (Array.getElem?_eq_some_iff.mp hc1).1
  have hheap : ((T.setVm vm').setCell a1 (vp_cell (G.2.2.1 3) (n1, .inr (.inr (.inr (.inr (va_cpy f g sp dp N))))))).heap = H.setIfInBounds a1 (vp_cell (G.2.2.1 3) (n1, .inr (.inr (.inr (.inr (va_cpy f g sp dp N)))))) := by rw [← hT]; rfl
  have oq : ∀ q : Nat, q ≠ a1 → (H.setIfInBounds a1 (vp_cell (G.2.2.1 3) (n1, .inr (.inr (.inr (.inr (va_cpy f g sp dp N)))))))[q]? = H[q]? := fun q hq => by simp [Array.getElem?_setIfInBounds, Ne.symm hq]
  obtain ⟨t, a2, b2⟩ := kk ls hl _ _ (hM.set (by simp) (show (H.setIfInBounds a1 _)[a1]? = some _ by simp [Array.getElem?_setIfInBounds, hlt]) oq) ⟨by simp; exact hS.1, fun q g1 g2 => by
      rw [oq q (fun e => g2 (by rw [e]; exact hA))]
      exact hS.2.1 q g1 g2, fun q hq => by
      rcases List.mem_append.mp hq with h | h
      · exact hS.2.2 q h
      · obtain ⟨z, -, hz⟩ := List.mem_map.mp h
        rw [← hz]
        exact hA⟩ _ hheap X'
  exact ⟨t, step t a2, b2⟩
theorem ga_mmax (X : ga_E Γ G own cc nL) (Y : ga_Y Γ G ret Qp Xp rm) {index : Nat} (hlink : Cond.methodLink own index Lib.Math.max.name ∈ lw_all) (hstat : Cond.static Lib.Math.max.name ∈ lw_all) (hini : Cond.initialized "java/lang/Math" ∈ lw_all) (hcode : Cond.code Lib.Math.max.name Lib.Math.max.code 2 (some .int) ∈ lw_all) (hframes : 1 ≤ rm.frames) (hlocals : 21 ≤ rm.locals) (hc : cells ≤ rm.cells) (hs : slots ≤ rm.slots) (hw : (st.map fun v => v.category).sum ≤ 8) {x y : Int32} (hdg : decode cc pc = .ok (.invokestatic index, 3)) (kk : ga Γ G h n cells slots (pc + 3) lv (.int (if x < y then y else x) :: st)) : ga Γ G h n cells slots pc lv (.int y :: .int x :: st) := fun ls hl H locs hM hS =>
  va_mmax X.1 X.2.1 hl.1.symm X.ow (X.hts hlink) (X.hts hstat) (X.hts hini) (X.hts hcode) (by rw [Y.2.2.1]; exact hframes) (by rw [Y.2.2.2.2.2]; omega) (by rw [Y.2.2.2.1]; exact hc) (by rw [Y.2.2.2.2.1]; exact hs) hdg (kk ls hl H locs hM hS)
theorem ga_mmin (X : ga_E Γ G own cc nL) (Y : ga_Y Γ G ret Qp Xp rm) {index : Nat} (hlink : Cond.methodLink own index Lib.Math.min.name ∈ lw_all) (hstat : Cond.static Lib.Math.min.name ∈ lw_all) (hini : Cond.initialized "java/lang/Math" ∈ lw_all) (hcode : Cond.code Lib.Math.min.name Lib.Math.min.code 2 (some .int) ∈ lw_all) (hframes : 1 ≤ rm.frames) (hlocals : 21 ≤ rm.locals) (hc : cells ≤ rm.cells) (hs : slots ≤ rm.slots) (hw : (st.map fun v => v.category).sum ≤ 8) {x y : Int32} (hdg : decode cc pc = .ok (.invokestatic index, 3)) (kk : ga Γ G h n cells slots (pc + 3) lv (.int (if y < x then y else x) :: st)) : ga Γ G h n cells slots pc lv (.int y :: .int x :: st) := fun ls hl H locs hM hS =>
  va_mmin X.1 X.2.1 hl.1.symm X.ow (X.hts hlink) (X.hts hstat) (X.hts hini) (X.hts hcode) (by rw [Y.2.2.1]; exact hframes) (by rw [Y.2.2.2.2.2]; omega) (by rw [Y.2.2.2.1]; exact hc) (by rw [Y.2.2.2.2.1]; exact hs) hdg (kk ls hl H locs hM hS)
theorem ga_mabs (X : ga_E Γ G own cc nL) (Y : ga_Y Γ G ret Qp Xp rm) {index : Nat} (hlink : Cond.methodLink own index Lib.Math.abs.name ∈ lw_all) (hstat : Cond.static Lib.Math.abs.name ∈ lw_all) (hini : Cond.initialized "java/lang/Math" ∈ lw_all) (hcode : Cond.code Lib.Math.abs.name Lib.Math.abs.code 1 (some .int) ∈ lw_all) (hframes : 1 ≤ rm.frames) (hlocals : 21 ≤ rm.locals) (hc : cells ≤ rm.cells) (hs : slots ≤ rm.slots) (hw : (st.map fun v => v.category).sum ≤ 8) {x : Int32} (hdg : decode cc pc = .ok (.invokestatic index, 3)) (kk : ga Γ G h n cells slots (pc + 3) lv (.int (if 0 ≤ x then x else 0 - x) :: st)) : ga Γ G h n cells slots pc lv (.int x :: st) := fun ls hl H locs hM hS =>
  va_mabs X.1 X.2.1 hl.1.symm X.ow (X.hts hlink) (X.hts hstat) (X.hts hini) (X.hts hcode) (by rw [Y.2.2.1]; exact hframes) (by rw [Y.2.2.2.2.2]; omega) (by rw [Y.2.2.2.1]; exact hc) (by rw [Y.2.2.2.2.1]; exact hs) hdg (kk ls hl H locs hM hS)
end GAR2
