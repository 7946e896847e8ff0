/-! ROWS: an instruction each, over ga -/
set_option maxRecDepth 100000
section GAR
variable {Γ : ga_F} {G : ga_X} {h : ga_H} {n cells slots pc : Nat} {lv lv' : List (Nat × Value)} {st : List Value} {own : String} {cc : ByteArray} {nL : Nat}
theorem ga_E.hts (X : ga_E Γ G own cc nL) {w : Cond} (h : w ∈ lw_all) : w.before (ga_a Γ) (ga_s Γ) = true := X.2.2.2.1 w h
theorem ga_E.ow (X : ga_E Γ G own cc nL) : (ga_s Γ).vm.findClass own = some (ga_m Γ).cls := X.2.2.2.2.1
theorem ga_E.K (X : ga_E Γ G own cc nL) : ga_K G (ga_s Γ) := X.2.2.2.2.2.1
theorem ga_E.tr (X : ga_E Γ G own cc nL) : (ga_l Γ).stackTraces = false := X.2.2.2.2.2.2.2
theorem ga_E.nw (X : ga_E Γ G own cc nL) {w : Cond} (h : w ∈ lw_tbl) (hp : ga_nwP w = true) : w.before (ga_a Γ) (ga_s Γ) = true := va_Nw.use (ga_nw_on hp) (X.K.2.1 w h hp)
theorem ga_iconst (X : ga_E Γ G own cc nL) {i : Int} {v : Int32} (hdg : decode cc pc = .ok (.iconst i, 1)) (hv : Int32.ofInt i = v) (kk : ga Γ G h n cells slots (pc + 1) lv (.int v :: st)) : ga Γ G h n cells slots pc lv st := fun ls hl H locs hM hS => lv_iconst X.1 X.2.1 hdg hv (kk ls hl H locs hM hS)
theorem ga_bipush (X : ga_E Γ G own cc nL) {i : Int} {v : Int32} (hdg : decode cc pc = .ok (.bipush i, 2)) (hv : (Int8.ofInt i).toInt32 = v) (kk : ga Γ G h n cells slots (pc + 2) lv (.int v :: st)) : ga Γ G h n cells slots pc lv st := fun ls hl H locs hM hS => lv_bipush X.1 X.2.1 hdg hv (kk ls hl H locs hM hS)
theorem ga_sipush (X : ga_E Γ G own cc nL) {i : Int} {v : Int32} (hdg : decode cc pc = .ok (.sipush i, 3)) (hv : (Int16.ofInt i).toInt32 = v) (kk : ga Γ G h n cells slots (pc + 3) lv (.int v :: st)) : ga Γ G h n cells slots pc lv st := fun ls hl H locs hM hS => lv_sipush X.1 X.2.1 hdg hv (kk ls hl H locs hM hS)
theorem ga_lconst (X : ga_E Γ G own cc nL) {i : Fin 2} {v : Int64} (hdg : decode cc pc = .ok (.lconst i, 1)) (hv : Int64.ofNat (i : Nat) = v) (kk : ga Γ G h n cells slots (pc + 1) lv (.long v :: st)) : ga Γ G h n cells slots pc lv st := fun ls hl H locs hM hS => lv_lconst X.1 X.2.1 hdg hv (kk ls hl H locs hM hS)
theorem ga_null (X : ga_E Γ G own cc nL)  (hdg : decode cc pc = .ok (.aconst_null, 1)) (kk : ga Γ G h n cells slots (pc + 1) lv (.null :: st)) : ga Γ G h n cells slots pc lv st := fun ls hl H locs hM hS => lv_null X.1 X.2.1 hdg (kk ls hl H locs hM hS)
theorem ga_iload_n (X : ga_E Γ G own cc nL) {j : Fin 4} (k : Nat) {i : Nat} {x : Int32} (hdg : decode cc pc = .ok (.iload_n j, 1)) (hi : (j : Nat) = i) (hk : lv[k]? = some (i, .int x)) (kk : ga Γ G h n cells slots (pc + 1) lv (.int x :: st)) : ga Γ G h n cells slots pc lv st := fun ls hl H locs hM hS => lv_iload_n X.1 X.2.1 hdg hi (lv_at hl k hk) (kk ls hl H locs hM hS)
theorem ga_iload (X : ga_E Γ G own cc nL) (k : Nat) {i : Nat} {x : Int32} (hdg : decode cc pc = .ok (.iload i, 2)) (hk : lv[k]? = some (i, .int x)) (kk : ga Γ G h n cells slots (pc + 2) lv (.int x :: st)) : ga Γ G h n cells slots pc lv st := fun ls hl H locs hM hS => lv_iload X.1 X.2.1 hdg (lv_at hl k hk) (kk ls hl H locs hM hS)
theorem ga_lload_n (X : ga_E Γ G own cc nL) {j : Fin 4} (k : Nat) {i : Nat} {x : Int64} (hdg : decode cc pc = .ok (.lload_n j, 1)) (hi : (j : Nat) = i) (hk : lv[k]? = some (i, .long x)) (kk : ga Γ G h n cells slots (pc + 1) lv (.long x :: st)) : ga Γ G h n cells slots pc lv st := fun ls hl H locs hM hS => lv_lload_n X.1 X.2.1 hdg hi (lv_at hl k hk) (kk ls hl H locs hM hS)
theorem ga_lload (X : ga_E Γ G own cc nL) (k : Nat) {i : Nat} {x : Int64} (hdg : decode cc pc = .ok (.lload i, 2)) (hk : lv[k]? = some (i, .long x)) (kk : ga Γ G h n cells slots (pc + 2) lv (.long x :: st)) : ga Γ G h n cells slots pc lv st := fun ls hl H locs hM hS => lv_lload X.1 X.2.1 hdg (lv_at hl k hk) (kk ls hl H locs hM hS)
theorem ga_aload_n (X : ga_E Γ G own cc nL) {j : Fin 4} (k : Nat) {i : Nat} {x : Nat} (hdg : decode cc pc = .ok (.aload_n j, 1)) (hi : (j : Nat) = i) (hk : lv[k]? = some (i, .ref x)) (kk : ga Γ G h n cells slots (pc + 1) lv (.ref x :: st)) : ga Γ G h n cells slots pc lv st := fun ls hl H locs hM hS => lv_aload_n X.1 X.2.1 hdg hi (lv_at hl k hk) (kk ls hl H locs hM hS)
theorem ga_aload (X : ga_E Γ G own cc nL) (k : Nat) {i : Nat} {x : Nat} (hdg : decode cc pc = .ok (.aload i, 2)) (hk : lv[k]? = some (i, .ref x)) (kk : ga Γ G h n cells slots (pc + 2) lv (.ref x :: st)) : ga Γ G h n cells slots pc lv st := fun ls hl H locs hM hS => lv_aload X.1 X.2.1 hdg (lv_at hl k hk) (kk ls hl H locs hM hS)
theorem ga_aload_nN (X : ga_E Γ G own cc nL) {j : Fin 4} (k : Nat) {i : Nat} (hdg : decode cc pc = .ok (.aload_n j, 1)) (hi : (j : Nat) = i) (hk : lv[k]? = some (i, .null)) (kk : ga Γ G h n cells slots (pc + 1) lv (.null :: st)) : ga Γ G h n cells slots pc lv st := fun ls hl H locs hM hS => lv_aload_nN X.1 X.2.1 hdg hi (lv_at hl k hk) (kk ls hl H locs hM hS)
theorem ga_aloadN (X : ga_E Γ G own cc nL) (k : Nat) {i : Nat} (hdg : decode cc pc = .ok (.aload i, 2)) (hk : lv[k]? = some (i, .null)) (kk : ga Γ G h n cells slots (pc + 2) lv (.null :: st)) : ga Γ G h n cells slots pc lv st := fun ls hl H locs hM hS => lv_aloadN X.1 X.2.1 hdg (lv_at hl k hk) (kk ls hl H locs hM hS)
theorem ga_istore_n (X : ga_E Γ G own cc nL) {j : Fin 4} {i : Nat} {x : Int32} (lv' : List (Nat × Value)) (hdg : decode cc pc = .ok (.istore_n j, 1)) (hi : (j : Nat) = i) (hn : i < nL) (hl' : (i, Value.int x) :: lv.filter (fun q => !(q.1 == i) && !(q.1 + 1 == i && q.2.category == 2)) = lv') (kk : ga Γ G h n cells slots (pc + 1) lv' st) : ga Γ G h n cells slots pc lv (.int x :: st) := fun ls hl H locs hM hS => lv_istore_n X.1 X.2.1 hdg hi hl (by rw [X.2.2.1]; exact hn) hl' (fun ls hl => kk ls hl H locs hM hS)
theorem ga_istore (X : ga_E Γ G own cc nL) {i : Nat} {x : Int32} (lv' : List (Nat × Value)) (hdg : decode cc pc = .ok (.istore i, 2)) (hn : i < nL) (hl' : (i, Value.int x) :: lv.filter (fun q => !(q.1 == i) && !(q.1 + 1 == i && q.2.category == 2)) = lv') (kk : ga Γ G h n cells slots (pc + 2) lv' st) : ga Γ G h n cells slots pc lv (.int x :: st) := fun ls hl H locs hM hS => lv_istore X.1 X.2.1 hdg hl (by rw [X.2.2.1]; exact hn) hl' (fun ls hl => kk ls hl H locs hM hS)
theorem ga_lstore_n (X : ga_E Γ G own cc nL) {j : Fin 4} {i : Nat} {x : Int64} (lv' : List (Nat × Value)) (hdg : decode cc pc = .ok (.lstore_n j, 1)) (hi : (j : Nat) = i) (hn : i + 1 < nL) (hl' : (i, Value.long x) :: lv.filter (fun q => !(q.1 == i) && (!(q.1 == i + 1) && !(q.1 + 1 == i && q.2.category == 2))) = lv') (kk : ga Γ G h n cells slots (pc + 1) lv' st) : ga Γ G h n cells slots pc lv (.long x :: st) := fun ls hl H locs hM hS => lv_lstore_n X.1 X.2.1 hdg hi hl (by rw [X.2.2.1]; exact hn) hl' (fun ls hl => kk ls hl H locs hM hS)
theorem ga_lstore (X : ga_E Γ G own cc nL) {i : Nat} {x : Int64} (lv' : List (Nat × Value)) (hdg : decode cc pc = .ok (.lstore i, 2)) (hn : i + 1 < nL) (hl' : (i, Value.long x) :: lv.filter (fun q => !(q.1 == i) && (!(q.1 == i + 1) && !(q.1 + 1 == i && q.2.category == 2))) = lv') (kk : ga Γ G h n cells slots (pc + 2) lv' st) : ga Γ G h n cells slots pc lv (.long x :: st) := fun ls hl H locs hM hS => lv_lstore X.1 X.2.1 hdg hl (by rw [X.2.2.1]; exact hn) hl' (fun ls hl => kk ls hl H locs hM hS)
theorem ga_astore_n (X : ga_E Γ G own cc nL) {j : Fin 4} {i : Nat} {x : Nat} (lv' : List (Nat × Value)) (hdg : decode cc pc = .ok (.astore_n j, 1)) (hi : (j : Nat) = i) (hn : i < nL) (hl' : (i, Value.ref x) :: lv.filter (fun q => !(q.1 == i) && !(q.1 + 1 == i && q.2.category == 2)) = lv') (kk : ga Γ G h n cells slots (pc + 1) lv' st) : ga Γ G h n cells slots pc lv (.ref x :: st) := fun ls hl H locs hM hS => lv_astore_n X.1 X.2.1 hdg hi hl (by rw [X.2.2.1]; exact hn) hl' (fun ls hl => kk ls hl H locs hM hS)
theorem ga_astore (X : ga_E Γ G own cc nL) {i : Nat} {x : Nat} (lv' : List (Nat × Value)) (hdg : decode cc pc = .ok (.astore i, 2)) (hn : i < nL) (hl' : (i, Value.ref x) :: lv.filter (fun q => !(q.1 == i) && !(q.1 + 1 == i && q.2.category == 2)) = lv') (kk : ga Γ G h n cells slots (pc + 2) lv' st) : ga Γ G h n cells slots pc lv (.ref x :: st) := fun ls hl H locs hM hS => lv_astore X.1 X.2.1 hdg hl (by rw [X.2.2.1]; exact hn) hl' (fun ls hl => kk ls hl H locs hM hS)
theorem ga_astoreN (X : ga_E Γ G own cc nL) {i : Nat} (lv' : List (Nat × Value)) (hdg : decode cc pc = .ok (.astore i, 2)) (hn : i < nL) (hl' : (i, Value.null) :: lv.filter (fun q => !(q.1 == i) && !(q.1 + 1 == i && q.2.category == 2)) = lv') (kk : ga Γ G h n cells slots (pc + 2) lv' st) : ga Γ G h n cells slots pc lv (.null :: st) := fun ls hl H locs hM hS => lv_astoreN X.1 X.2.1 hdg hl (by rw [X.2.2.1]; exact hn) hl' (fun ls hl => kk ls hl H locs hM hS)
theorem ga_astore_nN (X : ga_E Γ G own cc nL) {j : Fin 4} {i : Nat} (lv' : List (Nat × Value)) (hdg : decode cc pc = .ok (.astore_n j, 1)) (hi : (j : Nat) = i) (hn : i < nL) (hl' : (i, Value.null) :: lv.filter (fun q => !(q.1 == i) && !(q.1 + 1 == i && q.2.category == 2)) = lv') (kk : ga Γ G h n cells slots (pc + 1) lv' st) : ga Γ G h n cells slots pc lv (.null :: st) := fun ls hl H locs hM hS => lv_astore_nN X.1 X.2.1 hdg hi hl (by rw [X.2.2.1]; exact hn) hl' (fun ls hl => kk ls hl H locs hM hS)
theorem ga_iinc (X : ga_E Γ G own cc nL) {i : Nat} (k : Nat) {d : Int} {x v : Int32} (lv' : List (Nat × Value)) (hdg : decode cc pc = .ok (.iinc i d, 3)) (hk : lv[k]? = some (i, .int x)) (hv : x + Int32.ofInt d = v) (hn : i < nL) (hl' : (i, Value.int v) :: lv.filter (fun q => !(q.1 == i) && !(q.1 + 1 == i && q.2.category == 2)) = lv') (kk : ga Γ G h n cells slots (pc + 3) lv' st) : ga Γ G h n cells slots pc lv st := fun ls hl H locs hM hS => lv_iinc X.1 X.2.1 hdg hl hk hv (by rw [X.2.2.1]; exact hn) hl' (fun ls hl => kk ls hl H locs hM hS)
theorem ga_iadd (X : ga_E Γ G own cc nL) {x y : Int32} (hdg : decode cc pc = .ok (.iadd, 1)) (kk : ga Γ G h n cells slots (pc + 1) lv (.int (x + y) :: st)) : ga Γ G h n cells slots pc lv (.int y :: .int x :: st) := fun ls hl H locs hM hS => lv_iadd X.1 X.2.1 hdg (kk ls hl H locs hM hS)
theorem ga_isub (X : ga_E Γ G own cc nL) {x y : Int32} (hdg : decode cc pc = .ok (.isub, 1)) (kk : ga Γ G h n cells slots (pc + 1) lv (.int (x - y) :: st)) : ga Γ G h n cells slots pc lv (.int y :: .int x :: st) := fun ls hl H locs hM hS => lv_isub X.1 X.2.1 hdg (kk ls hl H locs hM hS)
theorem ga_imul (X : ga_E Γ G own cc nL) {x y : Int32} (hdg : decode cc pc = .ok (.imul, 1)) (kk : ga Γ G h n cells slots (pc + 1) lv (.int (x * y) :: st)) : ga Γ G h n cells slots pc lv (.int y :: .int x :: st) := fun ls hl H locs hM hS => lv_imul X.1 X.2.1 hdg (kk ls hl H locs hM hS)
theorem ga_iand (X : ga_E Γ G own cc nL) {x y : Int32} (hdg : decode cc pc = .ok (.iand, 1)) (kk : ga Γ G h n cells slots (pc + 1) lv (.int (x &&& y) :: st)) : ga Γ G h n cells slots pc lv (.int y :: .int x :: st) := fun ls hl H locs hM hS => lv_iand X.1 X.2.1 hdg (kk ls hl H locs hM hS)
theorem ga_ior (X : ga_E Γ G own cc nL) {x y : Int32} (hdg : decode cc pc = .ok (.ior, 1)) (kk : ga Γ G h n cells slots (pc + 1) lv (.int (x ||| y) :: st)) : ga Γ G h n cells slots pc lv (.int y :: .int x :: st) := fun ls hl H locs hM hS => lv_ior X.1 X.2.1 hdg (kk ls hl H locs hM hS)
theorem ga_ishl (X : ga_E Γ G own cc nL) {x y : Int32} (hdg : decode cc pc = .ok (.ishl, 1)) (kk : ga Γ G h n cells slots (pc + 1) lv (.int (x <<< (y &&& 31)) :: st)) : ga Γ G h n cells slots pc lv (.int y :: .int x :: st) := fun ls hl H locs hM hS => lv_ishl X.1 X.2.1 hdg (kk ls hl H locs hM hS)
theorem ga_ishr (X : ga_E Γ G own cc nL) {x y : Int32} (hdg : decode cc pc = .ok (.ishr, 1)) (kk : ga Γ G h n cells slots (pc + 1) lv (.int (x >>> (y &&& 31)) :: st)) : ga Γ G h n cells slots pc lv (.int y :: .int x :: st) := fun ls hl H locs hM hS => lv_ishr X.1 X.2.1 hdg (kk ls hl H locs hM hS)
theorem ga_ineg (X : ga_E Γ G own cc nL) {x : Int32} (hdg : decode cc pc = .ok (.ineg, 1)) (kk : ga Γ G h n cells slots (pc + 1) lv (.int (-x) :: st)) : ga Γ G h n cells slots pc lv (.int x :: st) := fun ls hl H locs hM hS => lv_ineg X.1 X.2.1 hdg (kk ls hl H locs hM hS)
theorem ga_idiv (X : ga_E Γ G own cc nL) {x y : Int32} (hdg : decode cc pc = .ok (.idiv, 1)) (hne : ¬ y = 0) (kk : ga Γ G h n cells slots (pc + 1) lv (.int (x / y) :: st)) : ga Γ G h n cells slots pc lv (.int y :: .int x :: st) := fun ls hl H locs hM hS => lv_idiv X.1 X.2.1 hdg hne (kk ls hl H locs hM hS)
theorem ga_iushr (X : ga_E Γ G own cc nL) {x y v : Int32} (hdg : decode cc pc = .ok (.iushr, 1)) (hv : (x.toUInt32 >>> (y.toUInt32 &&& Int32.toUInt32 31)).toInt32 = v) (kk : ga Γ G h n cells slots (pc + 1) lv (.int v :: st)) : ga Γ G h n cells slots pc lv (.int y :: .int x :: st) := fun ls hl H locs hM hS => lv_iushr X.1 X.2.1 hdg hv (kk ls hl H locs hM hS)
theorem ga_ladd (X : ga_E Γ G own cc nL) {x y : Int64} (hdg : decode cc pc = .ok (.ladd, 1)) (kk : ga Γ G h n cells slots (pc + 1) lv (.long (x + y) :: st)) : ga Γ G h n cells slots pc lv (.long y :: .long x :: st) := fun ls hl H locs hM hS => lv_ladd X.1 X.2.1 hdg (kk ls hl H locs hM hS)
theorem ga_lsub (X : ga_E Γ G own cc nL) {x y : Int64} (hdg : decode cc pc = .ok (.lsub, 1)) (kk : ga Γ G h n cells slots (pc + 1) lv (.long (x - y) :: st)) : ga Γ G h n cells slots pc lv (.long y :: .long x :: st) := fun ls hl H locs hM hS => lv_lsub X.1 X.2.1 hdg (kk ls hl H locs hM hS)
theorem ga_lmul (X : ga_E Γ G own cc nL) {x y : Int64} (hdg : decode cc pc = .ok (.lmul, 1)) (kk : ga Γ G h n cells slots (pc + 1) lv (.long (x * y) :: st)) : ga Γ G h n cells slots pc lv (.long y :: .long x :: st) := fun ls hl H locs hM hS => lv_lmul X.1 X.2.1 hdg (kk ls hl H locs hM hS)
theorem ga_ldiv (X : ga_E Γ G own cc nL) {x y : Int64} (hdg : decode cc pc = .ok (.ldiv, 1)) (hne : ¬ y = 0) (kk : ga Γ G h n cells slots (pc + 1) lv (.long (x / y) :: st)) : ga Γ G h n cells slots pc lv (.long y :: .long x :: st) := fun ls hl H locs hM hS => lv_ldiv X.1 X.2.1 hdg hne (kk ls hl H locs hM hS)
theorem ga_i2l (X : ga_E Γ G own cc nL) {x : Int32} {v : Int64} (hdg : decode cc pc = .ok (.i2l, 1)) (hv : x.toInt64 = v) (kk : ga Γ G h n cells slots (pc + 1) lv (.long v :: st)) : ga Γ G h n cells slots pc lv (.int x :: st) := fun ls hl H locs hM hS => lv_i2l X.1 X.2.1 hdg hv (kk ls hl H locs hM hS)
theorem ga_l2i (X : ga_E Γ G own cc nL) {x : Int64} {v : Int32} (hdg : decode cc pc = .ok (.l2i, 1)) (hv : x.toInt32 = v) (kk : ga Γ G h n cells slots (pc + 1) lv (.int v :: st)) : ga Γ G h n cells slots pc lv (.long x :: st) := fun ls hl H locs hM hS => lv_l2i X.1 X.2.1 hdg hv (kk ls hl H locs hM hS)
theorem ga_dup (X : ga_E Γ G own cc nL) {va : Value} (hdg : decode cc pc = .ok (.dup, 1)) (hva : va.category = 1) (kk : ga Γ G h n cells slots (pc + 1) lv (va :: va :: st)) : ga Γ G h n cells slots pc lv (va :: st) := fun ls hl H locs hM hS => lv_dup X.1 X.2.1 hdg hva (kk ls hl H locs hM hS)
theorem ga_pop (X : ga_E Γ G own cc nL) {va : Value} (hdg : decode cc pc = .ok (.pop, 1)) (hva : va.category = 1) (kk : ga Γ G h n cells slots (pc + 1) lv st) : ga Γ G h n cells slots pc lv (va :: st) := fun ls hl H locs hM hS => lv_pop X.1 X.2.1 hdg hva (kk ls hl H locs hM hS)
theorem ga_dup_x1 (X : ga_E Γ G own cc nL) {va vb : Value} (hdg : decode cc pc = .ok (.dup_x1, 1)) (hva : va.category = 1) (hvb : vb.category = 1) (kk : ga Γ G h n cells slots (pc + 1) lv (va :: vb :: va :: st)) : ga Γ G h n cells slots pc lv (va :: vb :: st) := fun ls hl H locs hM hS => lv_dup_x1 X.1 X.2.1 hdg hva hvb (kk ls hl H locs hM hS)
theorem ga_dup2 (X : ga_E Γ G own cc nL) {va vb : Value} (hdg : decode cc pc = .ok (.dup2, 1)) (hva : va.category = 1) (hvb : vb.category = 1) (kk : ga Γ G h n cells slots (pc + 1) lv (va :: vb :: va :: vb :: st)) : ga Γ G h n cells slots pc lv (va :: vb :: st) := fun ls hl H locs hM hS => lv_dup2_11 X.1 X.2.1 hdg hva hvb (kk ls hl H locs hM hS)
theorem ga_if_eq (X : ga_E Γ G own cc nL) {x : Int32} {off : Int} {tgt : Nat} (hdg : decode cc pc = .ok (.ifCond .eq off, 3)) (ht : (pc : Int) + off = (tgt : Int)) (kt : x = 0 → ga Γ G h n cells slots tgt lv st) (kf : ¬ x = 0 → ga Γ G h n cells slots (pc + 3) lv st) : ga Γ G h n cells slots pc lv (.int x :: st) := fun ls hl H locs hM hS => lv_if_eq X.1 X.2.1 hdg ht (fun c => kt c ls hl H locs hM hS) (fun c => kf c ls hl H locs hM hS)
theorem ga_icmp_eq (X : ga_E Γ G own cc nL) {x y : Int32} {off : Int} {tgt : Nat} (hdg : decode cc pc = .ok (.if_icmp .eq off, 3)) (ht : (pc : Int) + off = (tgt : Int)) (kt : x = y → ga Γ G h n cells slots tgt lv st) (kf : ¬ x = y → ga Γ G h n cells slots (pc + 3) lv st) : ga Γ G h n cells slots pc lv (.int y :: .int x :: st) := fun ls hl H locs hM hS => lv_icmp_eq X.1 X.2.1 hdg ht (fun c => kt c ls hl H locs hM hS) (fun c => kf c ls hl H locs hM hS)
theorem ga_if_ne (X : ga_E Γ G own cc nL) {x : Int32} {off : Int} {tgt : Nat} (hdg : decode cc pc = .ok (.ifCond .ne off, 3)) (ht : (pc : Int) + off = (tgt : Int)) (kt : ¬ x = 0 → ga Γ G h n cells slots tgt lv st) (kf : x = 0 → ga Γ G h n cells slots (pc + 3) lv st) : ga Γ G h n cells slots pc lv (.int x :: st) := fun ls hl H locs hM hS => lv_if_ne X.1 X.2.1 hdg ht (fun c => kt c ls hl H locs hM hS) (fun c => kf c ls hl H locs hM hS)
theorem ga_icmp_ne (X : ga_E Γ G own cc nL) {x y : Int32} {off : Int} {tgt : Nat} (hdg : decode cc pc = .ok (.if_icmp .ne off, 3)) (ht : (pc : Int) + off = (tgt : Int)) (kt : ¬ x = y → ga Γ G h n cells slots tgt lv st) (kf : x = y → ga Γ G h n cells slots (pc + 3) lv st) : ga Γ G h n cells slots pc lv (.int y :: .int x :: st) := fun ls hl H locs hM hS => lv_icmp_ne X.1 X.2.1 hdg ht (fun c => kt c ls hl H locs hM hS) (fun c => kf c ls hl H locs hM hS)
theorem ga_if_lt (X : ga_E Γ G own cc nL) {x : Int32} {off : Int} {tgt : Nat} (hdg : decode cc pc = .ok (.ifCond .lt off, 3)) (ht : (pc : Int) + off = (tgt : Int)) (kt : x < 0 → ga Γ G h n cells slots tgt lv st) (kf : ¬ x < 0 → ga Γ G h n cells slots (pc + 3) lv st) : ga Γ G h n cells slots pc lv (.int x :: st) := fun ls hl H locs hM hS => lv_if_lt X.1 X.2.1 hdg ht (fun c => kt c ls hl H locs hM hS) (fun c => kf c ls hl H locs hM hS)
theorem ga_icmp_lt (X : ga_E Γ G own cc nL) {x y : Int32} {off : Int} {tgt : Nat} (hdg : decode cc pc = .ok (.if_icmp .lt off, 3)) (ht : (pc : Int) + off = (tgt : Int)) (kt : x < y → ga Γ G h n cells slots tgt lv st) (kf : ¬ x < y → ga Γ G h n cells slots (pc + 3) lv st) : ga Γ G h n cells slots pc lv (.int y :: .int x :: st) := fun ls hl H locs hM hS => lv_icmp_lt X.1 X.2.1 hdg ht (fun c => kt c ls hl H locs hM hS) (fun c => kf c ls hl H locs hM hS)
theorem ga_if_ge (X : ga_E Γ G own cc nL) {x : Int32} {off : Int} {tgt : Nat} (hdg : decode cc pc = .ok (.ifCond .ge off, 3)) (ht : (pc : Int) + off = (tgt : Int)) (kt : 0 ≤ x → ga Γ G h n cells slots tgt lv st) (kf : ¬ 0 ≤ x → ga Γ G h n cells slots (pc + 3) lv st) : ga Γ G h n cells slots pc lv (.int x :: st) := fun ls hl H locs hM hS => lv_if_ge X.1 X.2.1 hdg ht (fun c => kt c ls hl H locs hM hS) (fun c => kf c ls hl H locs hM hS)
theorem ga_icmp_ge (X : ga_E Γ G own cc nL) {x y : Int32} {off : Int} {tgt : Nat} (hdg : decode cc pc = .ok (.if_icmp .ge off, 3)) (ht : (pc : Int) + off = (tgt : Int)) (kt : y ≤ x → ga Γ G h n cells slots tgt lv st) (kf : ¬ y ≤ x → ga Γ G h n cells slots (pc + 3) lv st) : ga Γ G h n cells slots pc lv (.int y :: .int x :: st) := fun ls hl H locs hM hS => lv_icmp_ge X.1 X.2.1 hdg ht (fun c => kt c ls hl H locs hM hS) (fun c => kf c ls hl H locs hM hS)
theorem ga_if_gt (X : ga_E Γ G own cc nL) {x : Int32} {off : Int} {tgt : Nat} (hdg : decode cc pc = .ok (.ifCond .gt off, 3)) (ht : (pc : Int) + off = (tgt : Int)) (kt : 0 < x → ga Γ G h n cells slots tgt lv st) (kf : ¬ 0 < x → ga Γ G h n cells slots (pc + 3) lv st) : ga Γ G h n cells slots pc lv (.int x :: st) := fun ls hl H locs hM hS => lv_if_gt X.1 X.2.1 hdg ht (fun c => kt c ls hl H locs hM hS) (fun c => kf c ls hl H locs hM hS)
theorem ga_icmp_gt (X : ga_E Γ G own cc nL) {x y : Int32} {off : Int} {tgt : Nat} (hdg : decode cc pc = .ok (.if_icmp .gt off, 3)) (ht : (pc : Int) + off = (tgt : Int)) (kt : y < x → ga Γ G h n cells slots tgt lv st) (kf : ¬ y < x → ga Γ G h n cells slots (pc + 3) lv st) : ga Γ G h n cells slots pc lv (.int y :: .int x :: st) := fun ls hl H locs hM hS => lv_icmp_gt X.1 X.2.1 hdg ht (fun c => kt c ls hl H locs hM hS) (fun c => kf c ls hl H locs hM hS)
theorem ga_if_le (X : ga_E Γ G own cc nL) {x : Int32} {off : Int} {tgt : Nat} (hdg : decode cc pc = .ok (.ifCond .le off, 3)) (ht : (pc : Int) + off = (tgt : Int)) (kt : x ≤ 0 → ga Γ G h n cells slots tgt lv st) (kf : ¬ x ≤ 0 → ga Γ G h n cells slots (pc + 3) lv st) : ga Γ G h n cells slots pc lv (.int x :: st) := fun ls hl H locs hM hS => lv_if_le X.1 X.2.1 hdg ht (fun c => kt c ls hl H locs hM hS) (fun c => kf c ls hl H locs hM hS)
theorem ga_icmp_le (X : ga_E Γ G own cc nL) {x y : Int32} {off : Int} {tgt : Nat} (hdg : decode cc pc = .ok (.if_icmp .le off, 3)) (ht : (pc : Int) + off = (tgt : Int)) (kt : x ≤ y → ga Γ G h n cells slots tgt lv st) (kf : ¬ x ≤ y → ga Γ G h n cells slots (pc + 3) lv st) : ga Γ G h n cells slots pc lv (.int y :: .int x :: st) := fun ls hl H locs hM hS => lv_icmp_le X.1 X.2.1 hdg ht (fun c => kt c ls hl H locs hM hS) (fun c => kf c ls hl H locs hM hS)
theorem ga_goto (X : ga_E Γ G own cc nL) {off : Int} {tgt : Nat} (hdg : decode cc pc = .ok (.goto off, 3)) (ht : (pc : Int) + off = (tgt : Int)) (kk : ga Γ G h n cells slots tgt lv st) : ga Γ G h n cells slots pc lv st := fun ls hl H locs hM hS => lv_goto X.1 X.2.1 hdg ht (kk ls hl H locs hM hS)
theorem ga_ifnonnull (X : ga_E Γ G own cc nL) {x : Nat} {off : Int} {tgt : Nat} (hdg : decode cc pc = .ok (.ifnonnull off, 3)) (ht : (pc : Int) + off = (tgt : Int)) (kk : ga Γ G h n cells slots tgt lv st) : ga Γ G h n cells slots pc lv (.ref x :: st) := fun ls hl H locs hM hS => lv_ifnonnull X.1 X.2.1 hdg ht (kk ls hl H locs hM hS)
theorem ga_ifnonnullN (X : ga_E Γ G own cc nL) {off : Int} (hdg : decode cc pc = .ok (.ifnonnull off, 3)) (kk : ga Γ G h n cells slots (pc + 3) lv st) : ga Γ G h n cells slots pc lv (.null :: st) := fun ls hl H locs hM hS => lv_ifnonnullN X.1 X.2.1 hdg (kk ls hl H locs hM hS)
theorem ga_ifnull (X : ga_E Γ G own cc nL) {x : Nat} {off : Int} (hdg : decode cc pc = .ok (.ifnull off, 3)) (kk : ga Γ G h n cells slots (pc + 3) lv st) : ga Γ G h n cells slots pc lv (.ref x :: st) := fun ls hl H locs hM hS => lv_ifnull X.1 X.2.1 hdg (kk ls hl H locs hM hS)
theorem ga_ifnullN (X : ga_E Γ G own cc nL) {off : Int} {tgt : Nat} (hdg : decode cc pc = .ok (.ifnull off, 3)) (ht : (pc : Int) + off = (tgt : Int)) (kk : ga Γ G h n cells slots tgt lv st) : ga Γ G h n cells slots pc lv (.null :: st) := fun ls hl H locs hM hS => lv_ifnullN X.1 X.2.1 hdg ht (kk ls hl H locs hM hS)
theorem ga_ldc (X : ga_E Γ G own cc nL) {index : Nat} {v : Int32} (hc : Cond.constant own index v ∈ lw_all) (hdg : decode cc pc = .ok (.ldc index, 2)) (kk : ga Γ G h n cells slots (pc + 2) lv (.int v :: st)) : ga Γ G h n cells slots pc lv st := fun ls hl H locs hM hS => lv_ldc X.1 X.2.1 X.ow (X.hts hc) hdg (kk ls hl H locs hM hS)
theorem ga_ldcw (X : ga_E Γ G own cc nL) {index : Nat} {v : Int32} (hc : Cond.constant own index v ∈ lw_all) (hdg : decode cc pc = .ok (.ldc_w index, 3)) (kk : ga Γ G h n cells slots (pc + 3) lv (.int v :: st)) : ga Γ G h n cells slots pc lv st := fun ls hl H locs hM hS => lv_ldcw X.1 X.2.1 X.ow (X.hts hc) hdg (kk ls hl H locs hM hS)
theorem ga_iaddN (X : ga_E Γ G own cc nL) {x y : Int32} (a b : Nat) (hx : x = nI a) (hy : y = nI b) (hdg : decode cc pc = .ok (.iadd, 1)) (kk : ga Γ G h n cells slots (pc + 1) lv (.int (nI (a + b)) :: st)) : ga Γ G h n cells slots pc lv (.int y :: .int x :: st) := ga_iadd X hdg (by rw [hx, hy, nI_add]; exact kk)
theorem ga_imulN (X : ga_E Γ G own cc nL) {x y : Int32} (a b : Nat) (hx : x = nI a) (hy : y = nI b) (hdg : decode cc pc = .ok (.imul, 1)) (kk : ga Γ G h n cells slots (pc + 1) lv (.int (nI (a * b)) :: st)) : ga Γ G h n cells slots pc lv (.int y :: .int x :: st) := ga_imul X hdg (by rw [hx, hy, pk_mul]; exact kk)
theorem ga_isubN (X : ga_E Γ G own cc nL) {x y : Int32} (a b : Nat) (hx : x = nI a) (hy : y = nI b) (hab : b ≤ a) (hdg : decode cc pc = .ok (.isub, 1)) (kk : ga Γ G h n cells slots (pc + 1) lv (.int (nI (a - b)) :: st)) : ga Γ G h n cells slots pc lv (.int y :: .int x :: st) := ga_isub X hdg (by rw [hx, hy, pk_sub hab]; exact kk)
theorem ga_sub (ks : List Nat) (hl' : lv_pick lv ks = lv') (kk : ga Γ G h n cells slots pc lv' st) : ga Γ G h n cells slots pc lv st := fun ls hl H locs hM hS => kk ls (lv_sub hl ks hl') H locs hM hS
theorem ga_widen {k2 n2 : Nat} (h1 : cells ≤ k2) (h2 : slots ≤ n2) (kk : ga Γ G h n k2 n2 pc lv st) : ga Γ G h n cells slots pc lv st := fun ls hl H locs hM hS => W.widen h1 h2 (kk ls hl H locs hM hS)
/-- a value on the stack gets a name -/
theorem ga_name {v : Value} (kk : ∀ w : Value, w = v → ga Γ G h n cells slots pc lv (w :: st)) : ga Γ G h n cells slots pc lv (v :: st) := kk v rfl
theorem ga_topi {x : Int32} (kk : ∀ y : Int32, y = x → ga Γ G h n cells slots pc lv (.int y :: st)) : ga Γ G h n cells slots pc lv (.int x :: st) := kk x rfl
theorem ga_lv {lv' : List (Nat × Value)} (e : lv = lv') (kk : ga Γ G h n cells slots pc lv' st) : ga Γ G h n cells slots pc lv st := by rw [e]; exact kk
theorem ga_st {st' : List Value} (e : st = st') (kk : ga Γ G h n cells slots pc lv st') : ga Γ G h n cells slots pc lv st := by rw [e]; exact kk
/-! fields -/
theorem ga_get (X : ga_E Γ G own cc nL) {ref C : String} {T : u_T} {N ci index a : Nat} {fs : List Value} {v : Value} (hin : ∀ w ∈ u_ws C T N, w ∈ lw_all) (hc : ga_cl[ci]? = some (C, T, N)) (k : Nat) (hk : k < N) (hlink : Cond.fieldLink own index ref (T k).2.1 (T k).2.2.1 ∈ lw_all) (href : (T k).1 = ref) (ha : h a = some (ga_O ci fs)) (hv : fs[k]? = some v) (hdg : decode cc pc = .ok (.getfield index, 3))
    (kk : ga Γ G h n cells slots (pc + 3) lv (v :: st)) : ga Γ G h n cells slots pc lv (.ref a :: st) := fun ls hl H locs hM hS =>
  va_get X.1 X.2.1 X.2.2.2.1 hin X.ow X.K.1 (hM.one ha (ga_std_r hc)) 0 rfl hc k hk (X.hts hlink) (fun x hx => by rw [← href]; exact hx) hv hdg (kk ls hl H locs hM hS)
theorem ga_getN (X : ga_E Γ G own cc nL) {ref C host : String} {T : u_T} {N ci index a : Nat} {fs : List Value} {v : Value} (hin : ∀ w ∈ u_ws C T N, w ∈ lw_all) (hc : ga_cl[ci]? = some (C, T, N)) (k : Nat) (hk : k < N) (hlink : Cond.fieldLinkNest own index ref (T k).2.1 (T k).2.2.1 host ∈ lw_tbl) (href : (T k).1 = ref) (ha : h a = some (ga_O ci fs)) (hv : fs[k]? = some v) (hdg : decode cc pc = .ok (.getfield index, 3))
    (kk : ga Γ G h n cells slots (pc + 3) lv (v :: st)) : ga Γ G h n cells slots pc lv (.ref a :: st) := fun ls hl H locs hM hS =>
  va_getN X.1 X.2.1 X.2.2.2.1 hin X.ow X.K.1 (hM.one ha (ga_std_r hc)) 0 rfl hc k hk (X.nw hlink rfl) (fun x hx => by rw [← href]; exact hx) hv hdg (kk ls hl H locs hM hS)
theorem ga_put (X : ga_E Γ G own cc nL) {ref C : String} {T : u_T} {N ci index a : Nat} {fs : List Value} {v : Value} (hin : ∀ w ∈ u_ws C T N, w ∈ lw_all) (ty0 : Nat → FieldType) (hty : ∀ k, k < N → parseFieldDescriptor (T k).2.2.1 = some (ty0 k)) (hnm : ∀ a, a < N → ∀ b, b < N → a ≠ b → (T a).2.1 ≠ (T b).2.1) (hc : ga_cl[ci]? = some (C, T, N)) (k : Nat) (hk : k < N) (hlink : Cond.fieldLink own index ref (T k).2.1 (T k).2.2.1 ∈ lw_all) (href : (T k).1 = ref) (hfin : (T k).2.2.2 = false) (ha : h a = some (ga_O ci fs)) (hA : G.2.1 ≤ a) (hn : narrow (ty0 k) v = v) (hfit : fits (ty0 k) v = true) (hl : k < fs.length) (hdg : decode cc pc = .ok (.putfield index, 3))
    (kk : ga Γ G (ga_up h a (ga_O ci (fs.set k v))) n cells slots (pc + 3) lv st) : ga Γ G h n cells slots pc lv (v :: .ref a :: st) := by
  subst href
  intro ls hls H locs hM hS
  have hK := X.K.1
  have hts := X.2.2.2.1
  have hap := va_apart (own := own) hts hin ty0 hty hnm hK hc
  obtain ⟨r, h1, cell, q1, q2, q3, q4⟩ := (hM.2 a _ ha).std (ga_std_r hc)
  have hr : r = (C, T, N) := Option.some.inj (h1.symm.trans hc)
  subst hr
  obtain ⟨hSl, hfc, kC, hkC, hkind⟩ := hK.1 ci _ hc
  obtain ⟨cf, kf, fi, f, hi, hsl⟩ := hSl k hk
  have hlay := hts _ (hin _ (u_in_lay hk))
  unfold u_lay at hlay
  rw [if_neg (by rw [hfin]; decide)] at hlay
  have hst := (u_facts hfc hkC (u_lays hts hin hk) hi).1
  have h6 := u_store hfc hkC hkind hlay hi (hty k hk) hn hfit
  refine W.putK X.1 X.2.1 (f := f) ⟨X.ow, X.hts hlink, ⟨_, _, _, hi⟩, hst⟩ (by rw [q2]; exact h6) q1 q3 (by rw [hsl]; exact k2_hasslot (q4 k hk)) rfl rfl hdg fun H' e1 e2 e3 => ?_
  rw [hsl] at e1 ⊢
  exact kk ls hls H' _ (hM.set e2 ⟨_, hc, t_OB.to (V := updV (vp_V fs) k v) ⟨_, e1, q2, q3, t_set q4 hap hk v⟩ (fun j _ => vp_updV_set hl v j)⟩ e3) (hS.put e2 e3 hA)
theorem ga_putN (X : ga_E Γ G own cc nL) {ref C host : String} {T : u_T} {N ci index a : Nat} {fs : List Value} {v : Value} (hin : ∀ w ∈ u_ws C T N, w ∈ lw_all) (ty0 : Nat → FieldType) (hty : ∀ k, k < N → parseFieldDescriptor (T k).2.2.1 = some (ty0 k)) (hnm : ∀ a, a < N → ∀ b, b < N → a ≠ b → (T a).2.1 ≠ (T b).2.1) (hc : ga_cl[ci]? = some (C, T, N)) (k : Nat) (hk : k < N) (hlink : Cond.fieldLinkNest own index ref (T k).2.1 (T k).2.2.1 host ∈ lw_tbl) (href : (T k).1 = ref) (hfin : (T k).2.2.2 = false) (ha : h a = some (ga_O ci fs)) (hA : G.2.1 ≤ a) (hn : narrow (ty0 k) v = v) (hfit : fits (ty0 k) v = true) (hl : k < fs.length) (hdg : decode cc pc = .ok (.putfield index, 3))
    (kk : ga Γ G (ga_up h a (ga_O ci (fs.set k v))) n cells slots (pc + 3) lv st) : ga Γ G h n cells slots pc lv (v :: .ref a :: st) := by
  subst href
  intro ls hls H locs hM hS
  have hK := X.K.1
  have hts := X.2.2.2.1
  have hap := va_apart (own := own) hts hin ty0 hty hnm hK hc
  obtain ⟨r, h1, cell, q1, q2, q3, q4⟩ := (hM.2 a _ ha).std (ga_std_r hc)
  have hr : r = (C, T, N) := Option.some.inj (h1.symm.trans hc)
  subst hr
  obtain ⟨hSl, hfc, kC, hkC, hkind⟩ := hK.1 ci _ hc
  obtain ⟨cf, kf, fi, f, hi, hsl⟩ := hSl k hk
  have hlay := hts _ (hin _ (u_in_lay hk))
  unfold u_lay at hlay
  rw [if_neg (by rw [hfin]; decide)] at hlay
  have hst := (u_facts hfc hkC (u_lays hts hin hk) hi).1
  have h6 := u_store hfc hkC hkind hlay hi (hty k hk) hn hfit
  refine va_WputK X.1 X.2.1 (f := f) X.ow (X.nw hlink rfl) hi hst (by rw [q2]; exact h6) q1 q3 (by rw [hsl]; exact k2_hasslot (q4 k hk)) rfl rfl hdg fun H' e1 e2 e3 => ?_
  rw [hsl] at e1 ⊢
  exact kk ls hls H' _ (hM.set e2 ⟨_, hc, t_OB.to (V := updV (vp_V fs) k v) ⟨_, e1, q2, q3, t_set q4 hap hk v⟩ (fun j _ => vp_updV_set hl v j)⟩ e3) (hS.put e2 e3 hA)
theorem ga_putF (X : ga_E Γ G own cc nL) {C : String} {T : u_T} {N ci index a : Nat} {fs : List Value} {v : Value} (hin : ∀ w ∈ u_ws C T N, w ∈ lw_all) (ty0 : Nat → FieldType) (hty : ∀ k, k < N → parseFieldDescriptor (T k).2.2.1 = some (ty0 k)) (hnm : ∀ a, a < N → ∀ b, b < N → a ≠ b → (T a).2.1 ≠ (T b).2.1) (hc : ga_cl[ci]? = some (C, T, N)) (k : Nat) (hk : k < N) (hlink : Cond.fieldLink own index (T k).1 (T k).2.1 (T k).2.2.1 ∈ lw_all) (hfin : (T k).2.2.2 = true) (hini : (ga_mt Γ).name = "<init>") (hdecl : (T k).1 = own) (ha : h a = some (ga_O ci fs)) (hA : G.2.1 ≤ a) (hn : narrow (ty0 k) v = v) (hfit : fits (ty0 k) v = true) (hl : k < fs.length) (hdg : decode cc pc = .ok (.putfield index, 3))
    (kk : ga Γ G (ga_up h a (ga_O ci (fs.set k v))) n cells slots (pc + 3) lv st) : ga Γ G h n cells slots pc lv (v :: .ref a :: st) := by
  intro ls hls H locs hM hS
  have hK := X.K.1
  have hts := X.2.2.2.1
  have hap := va_apart (own := own) hts hin ty0 hty hnm hK hc
  obtain ⟨r, h1, cell, q1, q2, q3, q4⟩ := (hM.2 a _ ha).std (ga_std_r hc)
  have hr : r = (C, T, N) := Option.some.inj (h1.symm.trans hc)
  subst hr
  obtain ⟨hSl, hfc, kC, hkC, hkind⟩ := hK.1 ci _ hc
  obtain ⟨cf, kf, fi, f, hi, hsl⟩ := hSl k hk
  have hlay := hts _ (hin _ (u_in_lay hk))
  unfold u_lay at hlay
  rw [if_pos hfin] at hlay
  have hst := (u_facts hfc hkC (u_lays hts hin hk) hi).1
  have hcf : (ga_m Γ).cls = cf := by
    obtain ⟨_, _, c', _, _, _, -, -, hf', -, -, -, hown2, -⟩ := Cond.laysFinal_spec hlay
    have e1 : c' = cf := by have := hi.symm.trans hf'; simp at this; exact this.1.symm
    rw [hdecl] at hown2
    rw [← e1]; exact Option.some.inj (X.ow.symm.trans hown2)
  have h6 := u_fits hfc hkC hkind (Or.inr hlay) hi (hty k hk) hn hfit
  refine W.putFinK X.1 X.2.1 X.ow (X.hts hlink) hi hst hcf hini (by rw [q2]; exact h6) q1 q3 (by rw [hsl]; exact k2_hasslot (q4 k hk)) rfl rfl hdg fun H' e1 e2 e3 => ?_
  rw [hsl] at e1 ⊢
  exact kk ls hls H' _ (hM.set e2 ⟨_, hc, t_OB.to (V := updV (vp_V fs) k v) ⟨_, e1, q2, q3, t_set q4 hap hk v⟩ (fun j _ => vp_updV_set hl v j)⟩ e3) (hS.put e2 e3 hA)
/-! arrays -/
theorem ga_iald (X : ga_E Γ G own cc nL) {a N : Nat} {f : Nat → Int32} {i : Int32} (j : Nat) (hi : i = nI j) (hj : j < N) (hN : N < 2147483648) (ha : h a = some (ga_I G N f)) (hdg : decode cc pc = .ok (.iaload, 1)) (kk : ga Γ G h n cells slots (pc + 1) lv (.int (f j) :: st)) : ga Γ G h n cells slots pc lv (.int i :: .ref a :: st) := fun ls hl H locs hM hS => by
  subst hi
  refine va_iald X.1 X.2.1 X.K.1 (hM.one ha ga_std_l) 0 0 rfl rfl (vp_in_nI hj hN) hdg ?_
  rw [nI_clamp (Nat.lt_trans hj hN)]
  exact kk ls hl H locs hM hS
theorem ga_zald (X : ga_E Γ G own cc nL) {a N : Nat} {f : Nat → Int32} {i : Int32} (j : Nat) (hi : i = nI j) (hj : j < N) (hN : N < 2147483648) (ha : h a = some (ga_Z G N f)) (hdg : decode cc pc = .ok (.baload, 1)) (kk : ga Γ G h n cells slots (pc + 1) lv (.int (f j) :: st)) : ga Γ G h n cells slots pc lv (.int i :: .ref a :: st) := fun ls hl H locs hM hS => by
  subst hi
  refine va_zald X.1 X.2.1 X.K.1 (hM.one ha ga_std_l) 0 1 rfl rfl (vp_in_nI hj hN) hdg ?_
  rw [nI_clamp (Nat.lt_trans hj hN)]
  exact kk ls hl H locs hM hS
theorem ga_upd_eq (f : Nat → Int32) (k : Nat) (x : Int32) (z : Int32) (hz : z = x) : (fun q => if q = k then Value.int z else Value.int (f q)) = fun q => Value.int (upd f k x q) := by
  funext q
  by_cases hq : q = k <;> simp [upd, hq, hz]
theorem ga_iast (X : ga_E Γ G own cc nL) {a N : Nat} {f : Nat → Int32} {i x : Int32} (j : Nat) (hi : i = nI j) (hj : j < N) (hN : N < 2147483648) (ha : h a = some (ga_I G N f)) (hA : G.2.1 ≤ a) (hdg : decode cc pc = .ok (.iastore, 1)) (kk : ga Γ G (ga_up h a (ga_I G N (upd f j x))) n cells slots (pc + 1) lv st) : ga Γ G h n cells slots pc lv (.int x :: .int i :: .ref a :: st) := by
  subst hi
  intro ls hl H locs hM hS
  refine W.iast X.1 X.2.1 ((hM.2 a _ ha).std ga_std_l) ((X.K.1.2 0 _ rfl).1 N (fun j => .int (f j))) (fun q => by cases q) (by show ¬ (nI j < 0 ∨ (arrV _ _ _).slots.size ≤ _); rw [arrV_size]; exact vp_in_nI hj hN) rfl rfl hdg fun H1 e z oq => ?_
  refine kk ls hl H1 _ (hM.set z ?_ oq) (hS.put z oq hA)
  show H1[a]? = some (vp_cell _ _)
  rw [e]
  rw [vp_cell_i, vp_cell_i, arrV_store, nI_clamp (Nat.lt_trans hj hN)]
  congr 2
  funext q
  by_cases hq : q = j
  · subst hq
    simp [updV, upd, vp_nar]
    try rfl
  · simp [updV, upd, hq]
theorem ga_zast (X : ga_E Γ G own cc nL) {a N : Nat} {f : Nat → Int32} {i x : Int32} (j : Nat) (hi : i = nI j) (hj : j < N) (hN : N < 2147483648) (hx : narrow .boolean (.int x) = .int x) (ha : h a = some (ga_Z G N f)) (hA : G.2.1 ≤ a) (hdg : decode cc pc = .ok (.bastore, 1)) (kk : ga Γ G (ga_up h a (ga_Z G N (upd f j x))) n cells slots (pc + 1) lv st) : ga Γ G h n cells slots pc lv (.int x :: .int i :: .ref a :: st) := by
  subst hi
  intro ls hl H locs hM hS
  refine W.zast X.1 X.2.1 ((hM.2 a _ ha).std ga_std_l) ((X.K.1.2 1 _ rfl).1 N (fun j => .int (f j))) (fun q => by cases q) (by show ¬ (nI j < 0 ∨ (arrV _ _ _).slots.size ≤ _); rw [arrV_size]; exact vp_in_nI hj hN) rfl rfl hdg fun H1 e z oq => ?_
  refine kk ls hl H1 _ (hM.set z ?_ oq) (hS.put z oq hA)
  show H1[a]? = some (vp_cell _ _)
  rw [e]
  rw [vp_cell_i, vp_cell_i, arrV_store, nI_clamp (Nat.lt_trans hj hN)]
  congr 2
  funext q
  by_cases hq : q = j
  · subst hq
    simp [updV, upd, hx]
  · simp [updV, upd, hq]
theorem ga_alen (X : ga_E Γ G own cc nL) {a : Nat} {cA : ClassId} {x : vp_A} (t0 : Nat) {ty : FieldType} (ht : (ga_tys G)[t0]? = some (cA, ty)) {v : Int32} (hv : nI x.1 = v) (ha : h a = some (.inl (cA, x))) (hdg : decode cc pc = .ok (.arraylength, 1)) (kk : ga Γ G h n cells slots (pc + 1) lv (.int v :: st)) : ga Γ G h n cells slots pc lv (.ref a :: st) := fun ls hl H locs hM hS =>
  va_alen X.1 X.2.1 X.K.1 (hM.one ha ga_std_l) 0 t0 rfl ht hv hdg (kk ls hl H locs hM hS)
variable {ret : Option FieldType} {Qp : Option Value → ga_H → Nat → Prop} {Xp : String → ga_H → Nat → Prop} {rm : Room}
/-- an array of numbers, made; kind: its place in ga_tys -/
theorem ga_newa (X : ga_E Γ G own cc nL) (Y : ga_Y Γ G ret Qp Xp rm) {atype : ArrayType} (t0 : Nat) {cA : ClassId} (ht : (ga_tys G)[t0]? = some (cA, newarray.typeOf atype)) (hnm : va_RA (ga_s Γ) cA (newarray.typeOf atype) → (ga_s Γ).vm.findClass ("[" ++ (newarray.typeOf atype).toString) = some cA) {i : Int32} (N : Nat) {x : vp_A} (hx : ∀ c : ClassId, vp_cell c x = arrV c N (fun _ => defaultValue (newarray.typeOf atype))) (hi : i = nI N) (hN : N ≤ 60000) (harr : Cond.arrayClass (newarray.typeOf atype) ∈ lw_all) (hc : cells + 1 ≤ rm.cells) (hs : slots + N ≤ rm.slots) (hdg : decode cc pc = .ok (.newarray atype, 2))
    (kk : ga Γ G (ga_up h n (.inl (cA, x))) (n + 1) (cells + 1) (slots + N) (pc + 2) lv (.ref n :: st)) : ga Γ G h n cells slots pc lv (.int i :: st) := by
  subst hi
  intro ls hl H locs hM hS
  have hlt : N < 2 ^ 31 := by omega
  have hcb : componentBytes (newarray.typeOf atype) ≤ 8 := by cases atype <;> decide
  refine va_newaK X.1 X.2.1 (X.hts harr) rfl hdg rfl (nI_pos hlt) (nI_clamp hlt) (Nat.le_trans (Nat.mul_le_mul hN hcb) (by omega)) (by rw [Y.2.2.2.1]; exact hc) (by rw [Y.2.2.2.2.1]; exact hs) hM.1 fun H1 cB e1 z1 o1 hAr hNm => ?_
  have hcc : cB = cA := Option.some.inj (hNm.symm.trans (hnm (X.K.1.2 t0 _ ht).2))
  subst hcc
  refine kk ls hl H1 locs (hM.push z1 ?_ (fun q hq => o1 q hq)) ⟨Nat.le_trans hS.1 (by rw [z1, hM.1]; omega), fun q h1 h2 => (o1 q (by have := hS.1; rw [hM.1] at this; omega)).trans (hS.2.1 q h1 h2), hS.2.2⟩
  show H1[n]? = some (vp_cell _ _)
  rw [hx]
  exact e1
theorem ga_newi (X : ga_E Γ G own cc nL) (Y : ga_Y Γ G ret Qp Xp rm) {i : Int32} (N : Nat) (hi : i = nI N) (hN : N ≤ 60000) (harr : Cond.arrayClass .int ∈ lw_all) (hc : cells + 1 ≤ rm.cells) (hs : slots + N ≤ rm.slots) (hdg : decode cc pc = .ok (.newarray .int, 2))
    (kk : ga Γ G (ga_up h n (ga_I G N (fun _ => 0))) (n + 1) (cells + 1) (slots + N) (pc + 2) lv (.ref n :: st)) : ga Γ G h n cells slots pc lv (.int i :: st) :=
  ga_newa X Y (atype := .int) 0 (cA := G.2.2.1 0) rfl (fun q => q) N (x := (N, .inl (fun _ => 0))) (fun c => rfl) hi hN harr hc hs hdg kk
theorem ga_newz (X : ga_E Γ G own cc nL) (Y : ga_Y Γ G ret Qp Xp rm) {i : Int32} (N : Nat) (hi : i = nI N) (hN : N ≤ 60000) (harr : Cond.arrayClass .boolean ∈ lw_all) (hc : cells + 1 ≤ rm.cells) (hs : slots + N ≤ rm.slots) (hdg : decode cc pc = .ok (.newarray .boolean, 2))
    (kk : ga Γ G (ga_up h n (ga_Z G N (fun _ => 0))) (n + 1) (cells + 1) (slots + N) (pc + 2) lv (.ref n :: st)) : ga Γ G h n cells slots pc lv (.int i :: st) :=
  ga_newa X Y (atype := .boolean) 1 (cA := G.2.2.1 1) rfl (fun q => q) N (x := (N, .inl (fun _ => 0))) (fun c => rfl) hi hN harr hc hs hdg kk
theorem ga_newl (X : ga_E Γ G own cc nL) (Y : ga_Y Γ G ret Qp Xp rm) {i : Int32} (N : Nat) (hi : i = nI N) (hN : N ≤ 60000) (harr : Cond.arrayClass .long ∈ lw_all) (hc : cells + 1 ≤ rm.cells) (hs : slots + N ≤ rm.slots) (hdg : decode cc pc = .ok (.newarray .long, 2))
    (kk : ga Γ G (ga_up h n (ga_L G N (fun _ => 0))) (n + 1) (cells + 1) (slots + N) (pc + 2) lv (.ref n :: st)) : ga Γ G h n cells slots pc lv (.int i :: st) :=
  ga_newa X Y (atype := .long) 2 (cA := G.2.2.1 2) rfl (fun q => q) N (x := (N, .inr (.inl (fun _ => 0)))) (fun c => rfl) hi hN harr hc hs hdg kk
theorem ga_new (X : ga_E Γ G own cc nL) (Y : ga_Y Γ G ret Qp Xp rm) {C : String} {T : u_T} {N ci index : Nat} (hin : ∀ w ∈ u_ws C T N, w ∈ lw_all) (ty : Nat → FieldType) (hty : ∀ k, k < N → parseFieldDescriptor (T k).2.2.1 = some (ty k)) (hc : ga_cl[ci]? = some (C, T, N)) (hcl : Cond.classLink own index C ∈ lw_all) (hinst : Cond.instantiable C N ∈ lw_all) (hini : Cond.initialized C ∈ lw_all) {fs : List Value} (hfs : (List.range N).map (fun j => defaultValue (ty j)) = fs) (hcells : cells + 1 ≤ rm.cells) (hslots : slots + N ≤ rm.slots) (hdg : decode cc pc = .ok (.new index, 3))
    (kk : ga Γ G (ga_up h n (ga_O ci fs)) (n + 1) (cells + 1) (slots + N) (pc + 3) lv (.ref n :: st)) : ga Γ G h n cells slots pc lv st := by
  subst hfs
  intro ls hl H locs hM hS
  have hKn := X.K.1.1 ci _ hc
  refine W.newcK X.1 X.2.1 X.ow (X.hts hcl) (X.hts hinst) (X.hts hini) rfl hdg (by rw [Y.2.2.2.1]; exact hcells) (by rw [Y.2.2.2.2.1]; exact hslots) hKn.2.1 hM.1 fun H1 kC hkC e1 z1 o1 => ?_
  refine kk ls hl H1 locs (hM.push z1 ⟨_, hc, (u_born ty X.2.2.2.1 hin hKn hkC e1 hty).to (fun j hj => ?_)⟩ (fun q hq => o1 q hq)) ⟨Nat.le_trans hS.1 (by rw [z1, hM.1]; omega), fun q h1 h2 => (o1 q (by have := hS.1; rw [hM.1] at this; omega)).trans (hS.2.1 q h1 h2), hS.2.2⟩
  simp [vp_V, List.getD_eq_getElem?_getD, hj]
/-! returns -/
theorem ga_end (Y : ga_Y Γ G ret Qp Xp rm) {H : Heap} {locs : List Loc} (hM : ga_M G h n H) (hS : va_S (ga_A G) (ga_s Γ).heap H locs) {v : Option Value} (hp : Qp v h n) : ∀ t : State, t.heap = H → (ga_s Γ).WarmedH t.vm → ga_Qc G Qp (ga_a Γ) (ga_s Γ) (.returned v) t :=
  fun t ht _ => ⟨v, h, n, rfl, hp, by rw [ht]; exact hM, by rw [ht]; exact hS.1, fun q h1 h2 => by rw [ht]; exact hS.2.1 q h1 h2⟩
theorem ga_iret (X : ga_E Γ G own cc nL) (Y : ga_Y Γ G (some .int) Qp Xp rm) {v : Int32} (hdg : decode cc pc = .ok (.ireturn, 1)) (hc : cells ≤ rm.cells) (hs : slots ≤ rm.slots) (hp : Qp (some (.int v)) h n) : ga Γ G h n cells slots pc lv [.int v] := fun ls hl H locs hM hS => by
  unfold ga_W
  have e := Y.2.1
  simp only [ga_q] at e
  rw [e]
  refine W.widen hc hs (vx_ret ?_)
  exact W.iret X.1 X.2.1 Y.1 (ga_end Y hM hS hp) hS.2.2 hdg X.2.2.2.2.2.2.1
theorem ga_zret (X : ga_E Γ G own cc nL) (Y : ga_Y Γ G (some .boolean) Qp Xp rm) {v : Int32} (hn : narrow .boolean (.int v) = .int v) (hdg : decode cc pc = .ok (.ireturn, 1)) (hc : cells ≤ rm.cells) (hs : slots ≤ rm.slots) (hp : Qp (some (.int v)) h n) : ga Γ G h n cells slots pc lv [.int v] := fun ls hl H locs hM hS => by
  unfold ga_W
  have e := Y.2.1
  simp only [ga_q] at e
  rw [e]
  refine W.widen hc hs (vx_ret ?_)
  exact W.zret X.1 X.2.1 Y.1 hn (ga_end Y hM hS hp) hS.2.2 hdg X.2.2.2.2.2.2.1
theorem ga_vret (X : ga_E Γ G own cc nL) (Y : ga_Y Γ G none Qp Xp rm) (hdg : decode cc pc = .ok (.return_, 1)) (hc : cells ≤ rm.cells) (hs : slots ≤ rm.slots) (hp : Qp none h n) : ga Γ G h n cells slots pc lv [] := fun ls hl H locs hM hS => by
  unfold ga_W
  have e := Y.2.1
  simp only [ga_q] at e
  rw [e]
  refine W.widen hc hs (vx_ret ?_)
  exact W.vret X.1 X.2.1 Y.1 (ga_end Y hM hS hp) hS.2.2 hdg X.2.2.2.2.2.2.1
theorem ga_aret (X : ga_E Γ G own cc nL) {rt : FieldType} (Y : ga_Y Γ G (some rt) Qp Xp rm) {v : Value} (hrt : (∃ n, rt = .object n) ∨ ∃ t, rt = .array t) (hv : v = .null ∨ ∃ a, v = .ref a) (hdg : decode cc pc = .ok (.areturn, 1)) (hc : cells ≤ rm.cells) (hs : slots ≤ rm.slots) (hp : Qp (some v) h n) : ga Γ G h n cells slots pc lv [v] := fun ls hl H locs hM hS => by
  unfold ga_W
  have e := Y.2.1
  simp only [ga_q] at e
  rw [e]
  refine W.widen hc hs (vx_ret ?_)
  exact W.aret X.1 X.2.1 Y.1 hrt hv (ga_end Y hM hS hp) hS.2.2 hdg X.2.2.2.2.2.2.1
end GAR
