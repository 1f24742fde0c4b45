/-! MY KIT, 4: methods that may throw (the thrown address is known), handlers, calls found by the receiver's class -/
def rI (r : Nat ⊕ Int32) : Nat ⊕ Option Value := match r with
  | .inl a => .inl a
  | .inr v => .inr (some (.int v))
def rL (r : Nat ⊕ Int64) : Nat ⊕ Option Value := match r with
  | .inl a => .inl a
  | .inr v => .inr (some (.long v))
def rA_ (r : Nat ⊕ Nat) : Nat ⊕ Option Value := match r with
  | .inl a => .inl a
  | .inr v => .inr (some (.ref v))
def rV (r : Nat ⊕ Unit) : Nat ⊕ Option Value := match r with
  | .inl a => .inl a
  | .inr _ => .inr none
def yQ (D : va_G) (dA : Nat → ClassId) (s0 : Nat) (r : Nat ⊕ Option Value) (T N : xT) (Z : Nat) (I : xI) (L : xL) (R : xR) : Array Value → State → Outcome → State → Prop := match r with
  | .inl _ => fun _ _ _ _ => False
  | .inr v => xQ D dA s0 v T N Z I L R
def yX (D : va_G) (dA : Nat → ClassId) (s0 : Nat) (r : Nat ⊕ Option Value) (T N : xT) (Z : Nat) (I : xI) (L : xL) (R : xR) : Addr → String → State → State → Prop := match r with
  | .inl a => fun q _ st t => q = a ∧ Rep D dA s0 T N Z I L R t.heap ∧ ∀ q, q < s0 → t.heap[q]? = st.heap[q]?
  | .inr _ => fun _ _ _ _ => False
def YMet (l : Launch) (D : va_G) (dA : Nat → ClassId) (s0 : Nat) (y : MethodName) (ws : List Cond) (fr lo : Nat) (av : List Value) (T N : xT) (Z : Nat) (I : xI) (L : xL) (R : xR) (r : Nat ⊕ Option Value) (T' N' : xT) (Z' : Nat) (I' : xI) (L' : xL) (R' : xR) (mc ms : Nat) : Prop :=
  vx_Met l y ws { frames := fr, cells := mc, slots := ms, locals := lo } (va_Pc av (xIn D dA s0 T N Z I L R)) (yQ D dA s0 r T' N' Z' I' L' R') (yX D dA s0 r T' N' Z' I' L' R') mc ms (fun q => s0 ≤ q)
/-- a method that returns, as one that may throw -/
theorem XMet.y {l : Launch} {D : va_G} {dA : Nat → ClassId} {s0 : Nat} {y : MethodName} {ws : List Cond} {fr lo : Nat} {av : List Value} {T N : xT} {Z : Nat} {I : xI} {L : xL} {R : xR} {v : Option Value} {T' N' : xT} {Z' : Nat} {I' : xI} {L' : xL} {R' : xR} {mc ms : Nat}
    (h : XMet l D dA s0 y ws fr lo av T N Z I L R v T' N' Z' I' L' R' mc ms) : YMet l D dA s0 y ws fr lo av T N Z I L R (.inr v) T' N' Z' I' L' R' mc ms := by
  intro p e ha hc hk s m args below hf happ hP hK
  obtain ⟨n, o, h1, h2, h3, h4⟩ := h p e ha hc hk s m args below hf happ hP hK
  exact ⟨n, o, h1, h2, h3, Or.inl h4⟩
section XE
variable {p : Program} {l : Launch} {e : Env} {Rm : Room} {s : State} {m : MethodId} {args : Array Value} {below : List Frame} {meth : Method} {c : Code} {H : Heap} {locs : List Loc} {cells slots : Nat} {Q : State → Prop}
variable {cc : ByteArray} {pc nL : Nat} {ls : Array Slot} {rest : List Value} {own : String} {D : va_G} {dA : Nat → ClassId} {s0 : Nat} {T N : xT} {Z : Nat} {I : xI} {L : xL} {R : xR}
variable {T' N' : xT} {Z' : Nat} {I' : xI} {L' : xL} {R' : xR} {mc ms : Nat} {v : Option Value}
variable {y : MethodName} {bytes : ByteArray} {maxL index n fr lo b ci Nf : Nat} {ret : Option FieldType} {As : List Value} {C host owner : String} {x : MethodName} {Tf : u_T} {st0 : List Value} {r : Nat ⊕ Option Value} {hh : List (Nat × Nat × Nat × Nat)}
theorem y_afterR {st0 : List Value} {a : Array Value} (hr : vx_Run p l e Rm s m args below meth c H locs cells slots mc ms (F0 m pc ls st0) rest (yQ D dA s0 (.inr v) T' N' Z' I' L' R' a) (yX D dA s0 (.inr v) T' N' Z' I' L' R') (fun q => s0 ≤ q)) (V : Iv D dA s0 s T N Z I L R H locs)
    (kk : ∀ (H1 : Heap) (locs1 : List Loc), Iv D dA s0 s T' N' Z' I' L' R' H1 locs1 → W p l e Rm s m args below meth c H1 locs1 (cells + mc) (slots + ms) Q (F0 m (pc + 3) ls (v.toList ++ rest))) : W p l e Rm s m args below meth c H locs cells slots Q (F0 m pc ls st0) := by
  intro Tq hT X
  rcases hr Tq hT X with ⟨v', st₀, t, T1, L1, h0, X', hL, e1, e2, ⟨hv, hrep, hbel⟩, st⟩ | ⟨q, st₀, t, T1, L1, E, ce, h0, X', hL, e1, e2, hq, -⟩
  · cases hv
    obtain ⟨t2, a1, b1⟩ := kk T1.heap (locs ++ L1) ⟨by rw [e1]; exact hrep, fun q hq => by rw [e1, hbel q hq, h0]; exact V.2.1 q hq, fun z hz => by
      rcases List.mem_append.mp hz with h | h
      · exact V.2.2 z h
      · exact hL z h⟩ T1 rfl X'
    exact ⟨t2, st t2 a1, b1⟩
  · exact hq.elim
theorem y_afterX {st0 : List Value} {a : Array Value} {q9 : Nat} (hr : vx_Run p l e Rm s m args below meth c H locs cells slots mc ms (F0 m pc ls st0) rest (yQ D dA s0 (.inl q9) T' N' Z' I' L' R' a) (yX D dA s0 (.inl q9) T' N' Z' I' L' R') (fun q => s0 ≤ q)) (V : Iv D dA s0 s T N Z I L R H locs)
    (kk : ∀ (H1 : Heap) (locs1 : List Loc), Iv D dA s0 s T' N' Z' I' L' R' H1 locs1 → vx_W p l e Rm s m args below meth c H1 locs1 (cells + mc) (slots + ms) Q (F0 m pc ls rest) q9) : W p l e Rm s m args below meth c H locs cells slots Q (F0 m pc ls st0) := by
  intro Tq hT X
  rcases hr Tq hT X with ⟨v', st₀, t, T1, L1, h0, X', hL, e1, e2, hq, st⟩ | ⟨q, st₀, t, T1, L1, E, ce, h0, X', hL, e1, e2, ⟨hq, hrep, hbel⟩, -, -, -, st⟩
  · exact hq.elim
  · subst hq
    obtain ⟨t2, a1, b1⟩ := kk T1.heap (locs ++ L1) ⟨by rw [e1]; exact hrep, fun q hq => by rw [e1, hbel q hq, h0]; exact V.2.1 q hq, fun z hz => by
      rcases List.mem_append.mp hz with h | h
      · exact V.2.2 z h
      · exact hL z h⟩ T1 rfl X'
    exact ⟨t2, st.trans a1, b1⟩
theorem y_out (X : Cx D dA s0 p m c cc nL s args own meth) (V : Iv D dA s0 s T N Z I L R H locs) (ht9 : c.exceptionTable.toList = []) (ok : ClOK ci C Tf Nf) {a : Nat} (ht : T a = ci + 1) (h1 : cells ≤ mc) (h2 : slots ≤ ms) :
    vx_W p l e Rm s m args below meth c H locs cells slots (vx_MQ below (yQ D dA s0 (.inl a) T N Z I L R) (yX D dA s0 (.inl a) T N Z I L R) args s mc ms (fun q => s0 ≤ q)) (F0 m pc ls rest) a := by
  obtain ⟨r, hr, cell, q1, q2, q3, q4⟩ := V.1.obj ht ok.2.2.1
  exact vx_out (E := C) (by rw [ht9]; intro z hz; cases hz) X.2.2.2.1 q1 q3 (by rw [q2]; exact (X.2.1.1.1 ci _ ok.1).2.1) (fun t ht _ => ⟨rfl, by rw [ht]; exact V.1, by rw [ht]; exact V.2.1⟩) V.2.2 h1 h2
theorem y_catch (X : Cx D dA s0 p m c cc nL s args own meth) (V : Iv D dA s0 s T N Z I L R H locs) (pre : List ExceptionTableEntry) (z : ExceptionTableEntry) (suf : List ExceptionTableEntry) (ht9 : c.exceptionTable.toList = pre ++ z :: suf) (hpre : ∀ w ∈ pre, covers w pc = false) (hz : covers z pc = true) (h0 : z.catchType ≠ 0) (hlink : Cond.classLink own z.catchType C ∈ lw_all) (hcast : Cond.castable C C ∈ lw_tbl) (ok : ClOK ci C Tf Nf) {a : Nat} (ht : T a = ci + 1)
    (kk : W p l e Rm s m args below meth c H locs cells slots Q (F0 m z.handlerPc ls [.ref a])) : vx_W p l e Rm s m args below meth c H locs cells slots Q (F0 m pc ls rest) a := by
  obtain ⟨r, hr, cell, q1, q2, q3, q4⟩ := V.1.obj ht ok.2.2.1
  exact vx_catch X.1.2.2.2.1 pre z suf ht9 (fun w hw => Or.inl (hpre w hw)) hz h0 (X.1.2.2.2.2 _ hlink) (X.2.2.1.use hcast rfl) q1 q3 (by rw [q2]; exact (X.2.1.1.1 ci _ ok.1).2.1) kk
/-! runs of callees that may throw -/
theorem y_runV (X : Cx D dA s0 p m c cc nL s args own meth) (V : Iv D dA s0 s T N Z I L R H locs) (hM : YMet l D dA s0 y (ws_ y bytes maxL ret) fr lo (.ref b :: As) T N Z I L R r T' N' Z' I' L' R' mc ms) (ok : ClOK ci C Tf Nf) (hb : T b = ci + 1)
    (h1 : Cond.methodLink own index y ∈ lw_all) (h2 : Cond.instanceMethod y ∈ lw_all) (h3 : Cond.selects C y y ∈ lw_all) (h4 : Cond.initialized C ∈ lw_all) (h5 : Cond.code y bytes maxL ret ∈ lw_all)
    (hd : y.cls = C ∧ y.cls ≠ "java/lang/invoke/MethodHandle" ∧ y.cls ≠ "java/lang/invoke/VarHandle" ∧ (parseMethodDescriptor y.desc).map (fun d => d.parameters.length) = some n) (hR : fr + 1 ≤ Rm.frames ∧ 8 + (maxL + 11) + lo ≤ Rm.locals)
    (hn : As.length = n) (hsize : ls.size = nL) (hst : st0 = As.reverse ++ .ref b :: rest) (hW : (rest.map fun v => v.category).sum ≤ 8) (hdg : decode cc pc = .ok (.invokevirtual index, 3)) (hf : cells + mc ≤ Rm.cells ∧ slots + ms ≤ Rm.slots) :
    vx_Run p l e Rm s m args below meth c H locs cells slots mc ms (F0 m pc ls st0) rest (yQ D dA s0 r T' N' Z' I' L' R' (Value.ref b :: As).toArray) (yX D dA s0 r T' N' Z' I' L' R') (fun q => s0 ≤ q) :=
  vx_runV X.1 hM (cwV n X.1.2.2.2.2 (lw_V h1 h2 h3 h4 h5) rfl rfl rfl hd hR) ⟨x_blind, x_recv X V ok hb, x_pre X V⟩ rfl hn hsize hst (lv_room hW) hdg hf
theorem lw_U (h1 : Cond.methodLink own index x ∈ lw_all) (h2 : Cond.sameMethod x.cls owner x.name x.desc ∈ lw_all) (h3 : Cond.selects C x y ∈ lw_all) (h4 : Cond.instanceMethod y ∈ lw_all) (h5 : Cond.initialized y.cls ∈ lw_all) (h6 : Cond.code y bytes maxL ret ∈ lw_all) : GoodIn lw_all (va_wsU own index C owner x y (ws_ y bytes maxL ret)) := by
  refine lw_app ?_ (lw_meth h6)
  intro w hw
  simp only [List.mem_cons, List.not_mem_nil, or_false] at hw
  rcases hw with q | q | q | q | q
  · rw [q]; exact h1
  · rw [q]; exact h2
  · rw [q]; exact h3
  · rw [q]; exact h4
  · rw [q]; exact h5
/-- found in a class above the receiver's -/
theorem y_runU (X : Cx D dA s0 p m c cc nL s args own meth) (V : Iv D dA s0 s T N Z I L R H locs) (hM : YMet l D dA s0 y (ws_ y bytes maxL ret) fr lo (.ref b :: As) T N Z I L R r T' N' Z' I' L' R' mc ms) (ok : ClOK ci C Tf Nf) (hb : T b = ci + 1)
    (h1 : Cond.methodLink own index x ∈ lw_all) (h2 : Cond.sameMethod x.cls owner x.name x.desc ∈ lw_all) (h3 : Cond.selects C x y ∈ lw_all) (h4 : Cond.instanceMethod y ∈ lw_all) (h5 : Cond.initialized y.cls ∈ lw_all) (h6 : Cond.code y bytes maxL ret ∈ lw_all) (hyx : y = ⟨owner, x.name, x.desc⟩)
    (hd : owner ≠ "java/lang/invoke/MethodHandle" ∧ owner ≠ "java/lang/invoke/VarHandle" ∧ (parseMethodDescriptor x.desc).map (fun d => d.parameters.length) = some n) (hR : fr + 1 ≤ Rm.frames ∧ 8 + (maxL + 11) + lo ≤ Rm.locals)
    (hn : As.length = n) (hsize : ls.size = nL) (hst : st0 = As.reverse ++ .ref b :: rest) (hW : (rest.map fun v => v.category).sum ≤ 8) (hdg : decode cc pc = .ok (.invokevirtual index, 3)) (hf : cells + mc ≤ Rm.cells ∧ slots + ms ≤ Rm.slots) :
    vx_Run p l e Rm s m args below meth c H locs cells slots mc ms (F0 m pc ls st0) rest (yQ D dA s0 r T' N' Z' I' L' R' (Value.ref b :: As).toArray) (yX D dA s0 r T' N' Z' I' L' R') (fun q => s0 ≤ q) :=
  vx_runU X.1 hM (va_cwU n X.1.2.2.2.2 (lw_U h1 h2 h3 h4 h5 h6) rfl rfl rfl hyx hd hR) ⟨x_blind, x_recv X V ok hb, x_pre X V⟩ rfl hn hsize hst (lv_room hW) hdg hf
/-- an abstract method's body, found by the receiver's class -/
theorem y_runA (X : Cx D dA s0 p m c cc nL s args own meth) (V : Iv D dA s0 s T N Z I L R H locs) (hM : YMet l D dA s0 y (ws_ y bytes maxL ret) fr lo (.ref b :: As) T N Z I L R r T' N' Z' I' L' R' mc ms) (ok : ClOK ci C Tf Nf) (hb : T b = ci + 1)
    (h1 : Cond.methodLink own index x ∈ lw_all) (h2 : Cond.sameMethod x.cls owner x.name x.desc ∈ lw_all) (h3 : Cond.selects C x y ∈ lw_all) (h4 : Cond.instanceMethod y ∈ lw_all) (h5 : Cond.initialized y.cls ∈ lw_all) (h6 : Cond.code y bytes maxL ret ∈ lw_all) (hz : Cond.declares ⟨owner, x.name, x.desc⟩ ∈ lw_tbl)
    (hd : owner ≠ "java/lang/invoke/MethodHandle" ∧ owner ≠ "java/lang/invoke/VarHandle" ∧ (parseMethodDescriptor x.desc).map (fun d => d.parameters.length) = some n) (hR : fr + 1 ≤ Rm.frames ∧ 8 + (maxL + 11) + lo ≤ Rm.locals)
    (hn : As.length = n) (hsize : ls.size = nL) (hst : st0 = As.reverse ++ .ref b :: rest) (hW : (rest.map fun v => v.category).sum ≤ 8) (hdg : decode cc pc = .ok (.invokevirtual index, 3)) (hf : cells + mc ≤ Rm.cells ∧ slots + ms ≤ Rm.slots) :
    vx_Run p l e Rm s m args below meth c H locs cells slots mc ms (F0 m pc ls st0) rest (yQ D dA s0 r T' N' Z' I' L' R' (Value.ref b :: As).toArray) (yX D dA s0 r T' N' Z' I' L' R') (fun q => s0 ≤ q) :=
  vx_runU X.1 hM (va_cwA n X.1.2.2.2.2 (lw_U h1 h2 h3 h4 h5 h6) rfl rfl rfl (X.2.2.1.1 _ hz rfl) hd hR) ⟨x_blind, x_recv X V ok hb, x_pre X V⟩ rfl hn hsize hst (lv_room hW) hdg hf
/-- callees with handlers -/
theorem y_runVX (X : Cx D dA s0 p m c cc nL s args own meth) (V : Iv D dA s0 s T N Z I L R H locs) (hM : YMet l D dA s0 y (wsW_ y bytes maxL ret hh) fr lo (.ref b :: As) T N Z I L R r T' N' Z' I' L' R' mc ms) (ok : ClOK ci C Tf Nf) (hb : T b = ci + 1)
    (h1 : Cond.methodLink own index y ∈ lw_all) (h2 : Cond.instanceMethod y ∈ lw_all) (h3 : Cond.selects C y y ∈ lw_all) (h4 : Cond.initialized C ∈ lw_all) (h5 : Cond.codeWith y bytes maxL ret hh ∈ lw_all)
    (hd : y.cls = C ∧ y.cls ≠ "java/lang/invoke/MethodHandle" ∧ y.cls ≠ "java/lang/invoke/VarHandle" ∧ (parseMethodDescriptor y.desc).map (fun d => d.parameters.length) = some n) (hR : fr + 1 ≤ Rm.frames ∧ 8 + (maxL + 11) + lo ≤ Rm.locals)
    (hn : As.length = n) (hsize : ls.size = nL) (hst : st0 = As.reverse ++ .ref b :: rest) (hW : (rest.map fun v => v.category).sum ≤ 8) (hdg : decode cc pc = .ok (.invokevirtual index, 3)) (hf : cells + mc ≤ Rm.cells ∧ slots + ms ≤ Rm.slots) :
    vx_Run p l e Rm s m args below meth c H locs cells slots mc ms (F0 m pc ls st0) rest (yQ D dA s0 r T' N' Z' I' L' R' (Value.ref b :: As).toArray) (yX D dA s0 r T' N' Z' I' L' R') (fun q => s0 ≤ q) :=
  vx_runVX X.1 hM (vx_cwVW n X.1.2.2.2.2 (lw_VW h1 h2 h3 h4 h5) rfl rfl rfl hd hR) ⟨x_blind, x_recv X V ok hb, x_pre X V⟩ rfl hn hsize hst (lv_room hW) hdg hf
theorem y_runSX (X : Cx D dA s0 p m c cc nL s args own meth) (V : Iv D dA s0 s T N Z I L R H locs) (hM : YMet l D dA s0 y (wsW_ y bytes maxL ret hh) fr lo As T N Z I L R r T' N' Z' I' L' R' mc ms)
    (h1 : Cond.methodLink own index y ∈ lw_all) (h2 : Cond.static y ∈ lw_all) (h3 : Cond.initialized y.cls ∈ lw_all) (h4 : Cond.codeWith y bytes maxL ret hh ∈ lw_all)
    (hd : y.cls ≠ "java/lang/invoke/MethodHandle" ∧ y.cls ≠ "java/lang/invoke/VarHandle" ∧ (parseMethodDescriptor y.desc).map (fun d => d.parameters.length) = some n) (hR : fr + 1 ≤ Rm.frames ∧ 8 + (maxL + 11) + lo ≤ Rm.locals)
    (hn : As.length = n) (hsize : ls.size = nL) (hst : st0 = As.reverse ++ rest) (hW : (rest.map fun v => v.category).sum ≤ 8) (hdg : decode cc pc = .ok (.invokestatic index, 3)) (hf : cells + mc ≤ Rm.cells ∧ slots + ms ≤ Rm.slots) :
    vx_Run p l e Rm s m args below meth c H locs cells slots mc ms (F0 m pc ls st0) rest (yQ D dA s0 r T' N' Z' I' L' R' As.toArray) (yX D dA s0 r T' N' Z' I' L' R') (fun q => s0 ≤ q) :=
  vx_runSX X.1 hM (vx_cwSW n X.1.2.2.2.2 (lw_SW h1 h2 h3 h4) rfl rfl rfl hd hR) ⟨x_blind, x_pre X V⟩ rfl hn hsize hst (lv_room hW) hdg hf
/-- a plain callee found in a class above the receiver's -/
theorem x_callU (X : Cx D dA s0 p m c cc nL s args own meth) (V : Iv D dA s0 s T N Z I L R H locs) (hM : XMet l D dA s0 y (ws_ y bytes maxL ret) fr lo (.ref b :: As) T N Z I L R v T' N' Z' I' L' R' mc ms) (ok : ClOK ci C Tf Nf) (hb : T b = ci + 1)
    (h1 : Cond.methodLink own index x ∈ lw_all) (h2 : Cond.sameMethod x.cls owner x.name x.desc ∈ lw_all) (h3 : Cond.selects C x y ∈ lw_all) (h4 : Cond.instanceMethod y ∈ lw_all) (h5 : Cond.initialized y.cls ∈ lw_all) (h6 : Cond.code y bytes maxL ret ∈ lw_all) (hyx : y = ⟨owner, x.name, x.desc⟩)
    (hd : owner ≠ "java/lang/invoke/MethodHandle" ∧ owner ≠ "java/lang/invoke/VarHandle" ∧ (parseMethodDescriptor x.desc).map (fun d => d.parameters.length) = some n) (hR : fr + 1 ≤ Rm.frames ∧ 8 + (maxL + 11) + lo ≤ Rm.locals)
    (hn : As.length = n) (hsize : ls.size = nL) (hst : st0 = As.reverse ++ .ref b :: rest) (hW : (rest.map fun v => v.category).sum ≤ 8) (hdg : decode cc pc = .ok (.invokevirtual index, 3)) (hf : cells + mc ≤ Rm.cells ∧ slots + ms ≤ Rm.slots)
    (kk : ∀ (H1 : Heap) (locs1 : List Loc), Iv D dA s0 s T' N' Z' I' L' R' H1 locs1 → W p l e Rm s m args below meth c H1 locs1 (cells + mc) (slots + ms) Q (F0 m (pc + 3) ls (v.toList ++ rest))) : W p l e Rm s m args below meth c H locs cells slots Q (F0 m pc ls st0) :=
  x_after (va_runU X.1 hM (va_cwU n X.1.2.2.2.2 (lw_U h1 h2 h3 h4 h5 h6) rfl rfl rfl hyx hd hR) ⟨x_blind, x_recv X V ok hb, x_pre X V⟩ rfl hn hsize hst (lv_room hW) hdg hf) V kk
/-! contracts out of walks -/
theorem y_start (hown : y.cls = own) (hy : plainName y.cls = true) {av : List Value} (hlen : (lg_sl av).length ≤ maxL) {lv : List (Nat × Value)} (hlv : lv_args 0 av = lv)
    (body : ∀ (p : Program) (e : Env) (s : State) (m : MethodId) (below : List Frame) (meth : Method) (c : Code) (ls : Array Slot), Cx D dA s0 p m c bytes maxL s av.toArray own meth → meth.sig.returnType = ret → c.exceptionTable.toList = [] → Iv D dA s0 s T N Z I L R s.heap [] → lv_has ls maxL lv →
      W p l e { frames := fr, cells := mc, slots := ms, locals := lo } s m av.toArray below meth c s.heap [] 0 0 (vx_MQ below (yQ D dA s0 r T' N' Z' I' L' R') (yX D dA s0 r T' N' Z' I' L' R') av.toArray s mc ms (fun q => s0 ≤ q)) (F0 m 0 ls [])) : YMet l D dA s0 y (ws_ y bytes maxL ret) fr lo av T N Z I L R r T' N' Z' I' L' R' mc ms := by
  subst hlv
  refine vx_ofW (cc := bytes) (maxL := maxL) (ret := ret) hy rfl ?_
  intro p e s m args below meth c s₁ B hml hte hv
  obtain ⟨rfl, hRep, hK, hN, hZs⟩ := hv
  have hts := atoms_spec (ws := ws_ y bytes maxL ret) B.pre
  have hl := lv_entry av (n := maxL) hlen
  rw [lg_entry_eq]
  exact body p e s m below meth c _ ⟨⟨B.exec, B.bytes, hml, by rw [← hown]; exact findClass_of_methodNamed B.named, fun w h => hts w (List.mem_cons_of_mem _ h)⟩, hK, hN, B.notSynchronized, hZs⟩ B.returns (List.eq_nil_iff_forall_not_mem.mpr fun x hx => hte x hx) ⟨hRep, fun _ _ => rfl, fun _ h => by cases h⟩ hl
theorem y_startH (hown : y.cls = own) (hy : plainName y.cls = true) {av : List Value} (hlen : (lg_sl av).length ≤ maxL) {lv : List (Nat × Value)} (hlv : lv_args 0 av = lv) {tb : List ExceptionTableEntry} (htb : tableOf hh = tb)
    (body : ∀ (p : Program) (e : Env) (s : State) (m : MethodId) (below : List Frame) (meth : Method) (c : Code) (ls : Array Slot), Cx D dA s0 p m c bytes maxL s av.toArray own meth → meth.sig.returnType = ret → c.exceptionTable.toList = tb → Iv D dA s0 s T N Z I L R s.heap [] → lv_has ls maxL lv →
      W p l e { frames := fr, cells := mc, slots := ms, locals := lo } s m av.toArray below meth c s.heap [] 0 0 (vx_MQ below (yQ D dA s0 r T' N' Z' I' L' R') (yX D dA s0 r T' N' Z' I' L' R') av.toArray s mc ms (fun q => s0 ≤ q)) (F0 m 0 ls [])) : YMet l D dA s0 y (wsW_ y bytes maxL ret hh) fr lo av T N Z I L R r T' N' Z' I' L' R' mc ms := by
  subst hlv
  refine vx_ofWH (cc := bytes) (maxL := maxL) (ret := ret) (hh := hh) hy rfl ?_
  intro p e s m args below meth c s₁ B hml hv
  obtain ⟨rfl, hRep, hK, hN, hZs⟩ := hv
  have hts := atoms_spec (ws := wsW_ y bytes maxL ret hh) B.pre
  have hl := lv_entry av (n := maxL) hlen
  rw [lg_entry_eq]
  exact body p e s m below meth c _ ⟨⟨B.exec, B.bytes, hml, by rw [← hown]; exact findClass_of_methodNamed B.named, fun w h => hts w (List.mem_cons_of_mem _ h)⟩, hK, hN, B.notSynchronized, hZs⟩ B.returns (by rw [← htb]; exact vx_table (x := y) B (hts _ List.mem_cons_self)) ⟨hRep, fun _ _ => rfl, fun _ h => by cases h⟩ hl
/-! ends -/
theorem y_iret (X : Cx D dA s0 p m c cc nL s args own meth) (V : Iv D dA s0 s T N Z I L R H locs) {v : Int32} (hr : meth.sig.returnType = some .int) (h1 : cells ≤ mc) (h2 : slots ≤ ms) (hdg : decode cc pc = .ok (.ireturn, 1)) : W p l e Rm s m args below meth c H locs cells slots (vx_MQ below (yQ D dA s0 (rI (.inr v)) T N Z I L R) (yX D dA s0 (rI (.inr v)) T N Z I L R) args s mc ms (fun q => s0 ≤ q)) (F0 m pc ls [.int v]) :=
  vx_ret (x_iretW X V hr h1 h2 hdg)
theorem y_zret (X : Cx D dA s0 p m c cc nL s args own meth) (V : Iv D dA s0 s T N Z I L R H locs) {v : Int32} (hr : meth.sig.returnType = some .boolean) (h1 : cells ≤ mc) (h2 : slots ≤ ms) (hz : zb v = true) (hdg : decode cc pc = .ok (.ireturn, 1)) : W p l e Rm s m args below meth c H locs cells slots (vx_MQ below (yQ D dA s0 (rI (.inr v)) T N Z I L R) (yX D dA s0 (rI (.inr v)) T N Z I L R) args s mc ms (fun q => s0 ≤ q)) (F0 m pc ls [.int v]) :=
  vx_ret (x_zretW X V hr h1 h2 hz hdg)
theorem y_lret (X : Cx D dA s0 p m c cc nL s args own meth) (V : Iv D dA s0 s T N Z I L R H locs) {v : Int64} (hr : meth.sig.returnType = some .long) (h1 : cells ≤ mc) (h2 : slots ≤ ms) (hdg : decode cc pc = .ok (.lreturn, 1)) : W p l e Rm s m args below meth c H locs cells slots (vx_MQ below (yQ D dA s0 (rL (.inr v)) T N Z I L R) (yX D dA s0 (rL (.inr v)) T N Z I L R) args s mc ms (fun q => s0 ≤ q)) (F0 m pc ls [.long v]) :=
  vx_ret (W.widen h1 h2 (x_lret X V hr hdg))
theorem y_vret (X : Cx D dA s0 p m c cc nL s args own meth) (V : Iv D dA s0 s T N Z I L R H locs) (hr : meth.sig.returnType = none) (h1 : cells ≤ mc) (h2 : slots ≤ ms) (hdg : decode cc pc = .ok (.return_, 1)) : W p l e Rm s m args below meth c H locs cells slots (vx_MQ below (yQ D dA s0 (rV (.inr ())) T N Z I L R) (yX D dA s0 (rV (.inr ())) T N Z I L R) args s mc ms (fun q => s0 ≤ q)) (F0 m pc ls []) :=
  vx_ret (x_vretW X V hr h1 h2 hdg)
theorem y_aret (X : Cx D dA s0 p m c cc nL s args own meth) (V : Iv D dA s0 s T N Z I L R H locs) {v : Nat} {rt : FieldType} (hr : meth.sig.returnType = some rt) (h1 : cells ≤ mc) (h2 : slots ≤ ms) (hrt : (∃ n, rt = .object n) ∨ ∃ t, rt = .array t) (hdg : decode cc pc = .ok (.areturn, 1)) : W p l e Rm s m args below meth c H locs cells slots (vx_MQ below (yQ D dA s0 (rA_ (.inr v)) T N Z I L R) (yX D dA s0 (rA_ (.inr v)) T N Z I L R) args s mc ms (fun q => s0 ≤ q)) (F0 m pc ls [.ref v]) :=
  vx_ret (x_aretW X V hr h1 h2 hrt hdg)
end XE
