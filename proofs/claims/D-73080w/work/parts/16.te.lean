/-! a test among the objects; printed by gen.py -/
section XTe
variable {p : Program} {l : Launch} {e : Env} {Rm : Room} {s : State} {m : MethodId} {args : Array Value} {below : List Frame} {meth : Method} {c : Code} {H : Heap} {locs : List Loc} {cells slots : Nat} {Q : State → Prop}
variable {cc : ByteArray} {pc nL : Nat} {ls : Array Slot} {rest : List Value} {own : String} {D : va_G} {dA : Nat → ClassId} {s0 : Nat} {T N : xT} {Z : Nat} {I : xI} {L : xL} {R : xR}
theorem x_castTe (X : Cx D dA s0 p m c cc nL s args own meth) (V : Iv D dA s0 s T N Z I L R H locs) {a index : Nat} (ht : isTe (T a) = true) (hcl : Cond.classLink own index "LostLanes$Test" ∈ lw_all) (hdg : decode cc pc = .ok (.checkcast index, 3))
    (k : W p l e Rm s m args below meth c H locs cells slots Q (F0 m (pc + 3) ls (.ref a :: rest))) : W p l e Rm s m args below meth c H locs cells slots Q (F0 m pc ls (.ref a :: rest)) := by
  rcases isTe_or ht with h | h | h
  · exact x_castY X V okX15 h hcl q2232 hdg k
  · exact x_castY X V okX16 h hcl q2233 hdg k
  · exact x_castY X V okX17 h hcl q2234 hdg k
end XTe
