set_option maxRecDepth 100000
def gl_c (x y : Int64) : Int32 := if y < x then 1 else if x = y then 0 else -1
section LCM
variable {p : Program} {l : Launch} {e : Env} {R : Room} {s : State} {m : MethodId} {args : Array Value} {below : List Frame} {meth : Method} {c : Code} {H : Heap} {locs : List Loc} {cells slots : Nat} {Q : State → Prop}
variable {cc : ByteArray} {pc : Nat} {ls : Array Slot} {rest : List Value}
theorem lv_lcmp (hexec : p.tables.exec = Jvm.exec) (hb : c.code = cc) {x y : Int64} (hdg : decode cc pc = .ok (.lcmp, 1))
    (k : W p l e R s m args below meth c H locs cells slots Q (F0 m (pc + 1) ls (.int (gl_c x y) :: rest))) : W p l e R s m args below meth c H locs cells slots Q (F0 m pc ls (.long y :: .long x :: rest)) := by
  intro T hT X
  obtain ⟨t, a, b⟩ := k T hT X
  refine ⟨t, ?_, b⟩
  unfold gl_c at a
  by_cases h1 : y < x
  · rw [if_pos h1] at a
    jvm_step X.here [X.here.top, hexec, hb, hdg, h1]
    exact a
  · rw [if_neg h1] at a
    by_cases h2 : x = y
    · rw [if_pos h2] at a
      jvm_step X.here [X.here.top, hexec, hb, hdg, h1, h2]
      exact a
    · rw [if_neg h2] at a
      jvm_step X.here [X.here.top, hexec, hb, hdg, h1, h2]
      exact a
end LCM
theorem ga_lcmp {Γ : ga_F} {G : ga_X} {h : ga_H} {n cells slots pc : Nat} {lv : List (Nat × Value)} {st : List Value} {own : String} {cc : ByteArray} {nL : Nat} (X : ga_E Γ G own cc nL) {x y : Int64} (hdg : decode cc pc = .ok (.lcmp, 1)) (kk : ga Γ G h n cells slots (pc + 1) lv (.int (gl_c x y) :: st)) : ga Γ G h n cells slots pc lv (.long y :: .long x :: st) := fun ls hl H locs hM hS => lv_lcmp X.1 X.2.1 hdg (kk ls hl H locs hM hS)
