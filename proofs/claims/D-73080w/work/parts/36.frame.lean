/-! MY KIT, the law's own rows: the script -/
def RL : String := "LostLanesLaw"
section XScr
variable {p : Program} {l : Launch} {e : Env} {Rm : Room} {s : State} {m : MethodId} {args : Array Value} {below : List Frame} {meth : Method} {c : Code} {H : Heap} {locs : List Loc} {cells slots : Nat} {Q : State → Prop}
variable {cc : ByteArray} {pc nL : Nat} {ls : Array Slot} {rest : List Value} {own : String} {D : va_G} {dA : Nat → ClassId} {s0 : Nat} {T N : xT} {Z : Nat} {I : xI} {L : xL} {R : xR}
theorem x_scr (V : Iv D dA s0 s T N Z I L R H locs) (h0 : s0 = s.heap.size) : va_S (fun q => s0 ≤ q) s.heap H locs := by
  refine ⟨?_, fun q h1 h2 => V.2.1 q (by omega), V.2.2⟩
  have h1 := V.1.2.1
  have h2 := V.1.2.2.1
  omega
theorem x_sld (X : Cx D dA s0 p m c cc nL s args own meth) (V : Iv D dA s0 s T N Z I L R H locs) {sb Ln : Nat} {xs : Nat → Int32} (hXs : va_X sb Ln xs s s.heap ∧ sb < s0 ∧ s0 = s.heap.size) {i : Int32} (hi : inb i Ln = true) (hdg : decode cc pc = .ok (.iaload, 1))
    (kk : W p l e Rm s m args below meth c H locs cells slots Q (F0 m (pc + 1) ls (.int (xs i.toNatClampNeg) :: rest))) : W p l e Rm s m args below meth c H locs cells slots Q (F0 m pc ls (.int i :: .ref sb :: rest)) :=
  va_sld (A := fun q => s0 ≤ q) X.1.1 X.1.2.1 hXs.1 (by rw [← hXs.2.2]; exact hXs.2.1) (Nat.not_le.mpr hXs.2.1) (x_scr V hXs.2.2) (inb_vp hi) hdg kk
theorem x_slen (X : Cx D dA s0 p m c cc nL s args own meth) (V : Iv D dA s0 s T N Z I L R H locs) {sb Ln : Nat} {xs : Nat → Int32} (hXs : va_X sb Ln xs s s.heap ∧ sb < s0 ∧ s0 = s.heap.size) (hdg : decode cc pc = .ok (.arraylength, 1))
    (kk : W p l e Rm s m args below meth c H locs cells slots Q (F0 m (pc + 1) ls (.int (Int32.ofNat Ln) :: rest))) : W p l e Rm s m args below meth c H locs cells slots Q (F0 m pc ls (.ref sb :: rest)) :=
  va_slen (A := fun q => s0 ≤ q) X.1.1 X.1.2.1 hXs.1 (by rw [← hXs.2.2]; exact hXs.2.1) (Nat.not_le.mpr hXs.2.1) (x_scr V hXs.2.2) hdg kk
end XScr
