/-! MY KIT, 5: texts, lists' arrays of objects, class objects, calls through an interface -/
section XL
variable {p : Program} {l : Launch} {e : Env} {Rm : Room} {s : State} {m : MethodId} {args : Array Value} {below : List Frame} {meth : Method} {c : Code} {H : Heap} {locs : List Loc} {cells slots : Nat} {Q : State → Prop}
variable {cc : ByteArray} {pc nL : Nat} {ls : Array Slot} {rest : List Value} {own : String} {D : va_G} {dA : Nat → ClassId} {s0 : Nat} {T N : xT} {Z : Nat} {I : xI} {L : xL} {R : xR}
variable {T' N' : xT} {Z' : Nat} {I' : xI} {L' : xL} {R' : xR} {mc ms : Nat} {v : Option Value}
variable {y : MethodName} {bytes : ByteArray} {maxL index n fr lo b ci Nf : Nat} {ret : Option FieldType} {As : List Value} {C host owner : String} {x : MethodName} {Tf : u_T} {st0 : List Value}
theorem x_strV (X : Cx D dA s0 p m c cc nL s args own meth) (V : Iv D dA s0 s T N Z I L R H locs) {a : Nat} (ht : T a = 20) (hlink : Cond.fieldLink own index "java/lang/String" "value" "[B" ∈ lw_all) (hdg : decode cc pc = .ok (.getfield index, 3))
    (kk : W p l e Rm s m args below meth c H locs cells slots Q (F0 m (pc + 3) ls (va_rf (R a 0) :: rest))) : W p l e Rm s m args below meth c H locs cells slots Q (F0 m pc ls (.ref a :: rest)) := by
  obtain ⟨cell, g1, g2, g3, g4, g5, g6⟩ := V.1.str ht
  obtain ⟨-, ⟨cf, k, i, f, a1, a2, a3⟩, -⟩ := X.2.1.2.1
  exact W.getf X.1.1 X.1.2.1 X.1.2.2.2.1 (X.1.2.2.2.2 _ hlink) a1 a2 g1 g2 (v := va_rf (R a 0)) (by rw [a3]; exact g5) rfl rfl hdg kk
theorem x_strC (X : Cx D dA s0 p m c cc nL s args own meth) (V : Iv D dA s0 s T N Z I L R H locs) {a : Nat} (ht : T a = 20) (hlink : Cond.fieldLink own index "java/lang/String" "coder" "B" ∈ lw_all) (hdg : decode cc pc = .ok (.getfield index, 3))
    (kk : W p l e Rm s m args below meth c H locs cells slots Q (F0 m (pc + 3) ls (.int (I a 1) :: rest))) : W p l e Rm s m args below meth c H locs cells slots Q (F0 m pc ls (.ref a :: rest)) := by
  obtain ⟨cell, g1, g2, g3, g4, g5, g6⟩ := V.1.str ht
  obtain ⟨-, -, ⟨cf, k, i, f, a1, a2, a3⟩⟩ := X.2.1.2.1
  exact W.getf X.1.1 X.1.2.1 X.1.2.2.2.1 (X.1.2.2.2.2 _ hlink) a1 a2 g1 g2 (v := .int (I a 1)) (by rw [a3]; exact g6) rfl rfl hdg kk
theorem x_recvS (X : Cx D dA s0 p m c cc nL s args own meth) (V : Iv D dA s0 s T N Z I L R H locs) (hb : T b = 20) : ∃ cell : Cell, H[b]? = some cell ∧ cell.vm.isStatics = false ∧ s.vm.findClass "java/lang/String" = some cell.cls := by
  obtain ⟨cell, g1, g2, g3, g4, g5, g6⟩ := V.1.str hb
  exact ⟨cell, g1, g3, by rw [g4]; exact X.2.1.2.1.1⟩
theorem x_callVS0 (X : Cx D dA s0 p m c cc nL s args own meth) (V : Iv D dA s0 s T N Z I L R H locs) (hM : XMet l D dA s0 y (ws_ y bytes maxL ret) fr lo (.ref b :: As) T N Z I L R v T' N' Z' I' L' R' 0 0) (hb : T b = 20)
    (h1 : Cond.methodLink own index y ∈ lw_all) (h2 : Cond.instanceMethod y ∈ lw_all) (h3 : Cond.selects "java/lang/String" y y ∈ lw_all) (h4 : Cond.initialized "java/lang/String" ∈ lw_all) (h5 : Cond.code y bytes maxL ret ∈ lw_all)
    (hd : y.cls = "java/lang/String" ∧ y.cls ≠ "java/lang/invoke/MethodHandle" ∧ y.cls ≠ "java/lang/invoke/VarHandle" ∧ (parseMethodDescriptor y.desc).map (fun d => d.parameters.length) = some n) (hR : fr + 1 ≤ Rm.frames ∧ 8 + (maxL + 11) + lo ≤ Rm.locals)
    (hn : As.length = n) (hsize : ls.size = nL) (hst : st0 = As.reverse ++ .ref b :: rest) (hW : (rest.map fun v => v.category).sum ≤ 8) (hdg : decode cc pc = .ok (.invokevirtual index, 3)) (hf : cells ≤ Rm.cells ∧ slots ≤ Rm.slots)
    (kk : ∀ (H1 : Heap) (locs1 : List Loc), Iv D dA s0 s T' N' Z' I' L' R' H1 locs1 → W p l e Rm s m args below meth c H1 locs1 cells slots Q (F0 m (pc + 3) ls (v.toList ++ rest))) : W p l e Rm s m args below meth c H locs cells slots Q (F0 m pc ls st0) :=
  x_after (mc := 0) (ms := 0) (va_runV X.1 hM (cwV n X.1.2.2.2.2 (lw_V h1 h2 h3 h4 h5) rfl rfl rfl hd hR) ⟨x_blind, x_recvS X V hb, x_pre X V⟩ rfl hn hsize hst (lv_room hW) hdg hf) V kk
theorem x_ldcS (X : Cx D dA s0 p m c cc nL s args own meth) (k : Nat) {tx : String} {a : Nat} (hk : stT[k]? = some (own, index, tx)) (ha : sv dA (100 + k) = some a) (hdg : decode cc pc = .ok (.ldc index, 2))
    (kk : W p l e Rm s m args below meth c H locs cells slots Q (F0 m (pc + 2) ls (.ref a :: rest))) : W p l e Rm s m args below meth c H locs cells slots Q (F0 m pc ls rest) := by
  obtain ⟨q, h1, h2⟩ := X.2.2.2.2.2.2.2 k _ hk
  cases ha.symm.trans h1
  exact va_ldcS X.1.1 X.1.2.1 X.1.2.2.2.1 h2 hdg kk
theorem x_bret (X : Cx D dA s0 p m c cc nL s args own meth) (V : Iv D dA s0 s T N Z I L R H locs) {v : Int32} (hr : meth.sig.returnType = some .byte) (hz : byb v = true) (hdg : decode cc pc = .ok (.ireturn, 1)) : W p l e Rm s m args below meth c H locs cells slots (MQ below (xQ D dA s0 (some (.int v)) T N Z I L R) args s cells slots (fun q => s0 ≤ q)) (F0 m pc ls [.int v]) :=
  W.zret X.1.1 X.1.2.1 hr (byb_n hz) (x_ret V) V.2.2 hdg X.2.2.2.1
theorem x_cret (X : Cx D dA s0 p m c cc nL s args own meth) (V : Iv D dA s0 s T N Z I L R H locs) {v : Int32} (hr : meth.sig.returnType = some .char) (hz : chb v = true) (hdg : decode cc pc = .ok (.ireturn, 1)) : W p l e Rm s m args below meth c H locs cells slots (MQ below (xQ D dA s0 (some (.int v)) T N Z I L R) args s cells slots (fun q => s0 ≤ q)) (F0 m pc ls [.int v]) :=
  W.zret X.1.1 X.1.2.1 hr (chb_n hz) (x_ret V) V.2.2 hdg X.2.2.2.1
/-! an inherited field under the heir's name -/
theorem x_getI (X : Cx D dA s0 p m c cc nL s args own meth) (V : Iv D dA s0 s T N Z I L R H locs) {a : Nat} {ref : String} (ok : ClOK ci C Tf Nf) (ht : T a = ci + 1) (k : Nat) (hk : k < Nf) (hlink : Cond.fieldLink own index ref (Tf k).2.1 (Tf k).2.2.1 ∈ lw_all) (hs : Cond.sameField ref (Tf k).1 (Tf k).2.1 (Tf k).2.2.1 ∈ lw_all) {w : Value} (hv : fval (tyT ci k) (I a k) (L a k) (R a k) = w) (hdg : decode cc pc = .ok (.getfield index, 3))
    (kk : W p l e Rm s m args below meth c H locs cells slots Q (F0 m (pc + 3) ls (w :: rest))) : W p l e Rm s m args below meth c H locs cells slots Q (F0 m pc ls (.ref a :: rest)) := by
  obtain ⟨⟨hx, hb, hml, hown, hts⟩, hK, -, -, -⟩ := X
  obtain ⟨hc, hin, hci, hty, hnm⟩ := ok
  obtain ⟨r, h1, cell, q1, q2, q3, q4⟩ := V.1.obj ht hci
  have hr : r = (C, Tf, Nf) := Option.some.inj (h1.symm.trans hc)
  subst hr
  obtain ⟨hS, hfc, kC, hkC, hkind⟩ := hK.1.1 ci _ hc
  obtain ⟨cf, kf, fi, f, hi, hsl⟩ := hS k hk
  refine W.getf hx hb hown (hts _ hlink) (u_same (hts _ hs) _ hi) (u_facts hfc hkC (u_lays hts hin hk) hi).1 q1 (by rw [q3]; exact fun h => by cases h) (v := w) ?_ rfl rfl hdg kk
  rw [hsl, q4 k hk]
  exact congrArg some hv
theorem x_putiI (X : Cx D dA s0 p m c cc nL s args own meth) (V : Iv D dA s0 s T N Z I L R H locs) {a : Nat} {ref : String} (ok : ClOK ci C Tf Nf) (ht : T a = ci + 1) (k : Nat) (hk : k < Nf) (hlink : Cond.fieldLink own index ref (Tf k).2.1 (Tf k).2.2.1 ∈ lw_all) (hs : Cond.sameField ref (Tf k).1 (Tf k).2.1 (Tf k).2.2.1 ∈ lw_all) (hfin : (Tf k).2.2.2 = false) {x : Int32} {I1 : xI} (hI : I1 = uI I a k x) (hty9 : ∀ i l r, fval (tyT ci k) i l r = .int i)
    (hn : narrow (tyT ci k) (.int x) = .int x) (hfit : fits (tyT ci k) (.int x) = true) (hdg : decode cc pc = .ok (.putfield index, 3))
    (kk : ∀ (H1 : Heap) (locs1 : List Loc), Iv D dA s0 s T N Z I1 L R H1 locs1 → W p l e Rm s m args below meth c H1 locs1 cells slots Q (F0 m (pc + 3) ls rest)) : W p l e Rm s m args below meth c H locs cells slots Q (F0 m pc ls (.int x :: .ref a :: rest)) := by
  obtain ⟨⟨hx, hb, hml, hown, hts⟩, hK, -, -, -⟩ := X
  obtain ⟨hc, hin, hci, hty, hnm⟩ := ok
  have ha : s0 ≤ a := V.1.ownd (by rw [ht]; omega) (by rw [ht]; omega) (by rw [ht]; omega)
  have hap := va_apart (own := own) hts hin (tyT ci) hty hnm hK.1 hc
  obtain ⟨r, h1, cell, q1, q2, q3, q4⟩ := V.1.obj ht hci
  have hr : r = (C, Tf, Nf) := Option.some.inj (h1.symm.trans hc)
  subst hr
  obtain ⟨hS, hfc, kC, hkC, hkind⟩ := hK.1.1 ci _ hc
  obtain ⟨cf, kf, fi, f, hi, hsl⟩ := hS k hk
  have hlay := hts _ (hin _ (u_in_lay hk))
  have hst := (u_facts hfc hkC (u_lays hts hin hk) hi).1
  unfold u_lay at hlay
  rw [if_neg (by rw [hfin]; decide)] at hlay
  have h6 := u_store hfc hkC hkind hlay hi (hty k hk) hn hfit
  refine W.putK hx hb (f := f) ⟨hown, hts _ hlink, ⟨_, _, _, u_same (hts _ hs) _ hi⟩, hst⟩ (by rw [q2]; exact h6) q1 q3 (by rw [hsl]; exact k2_hasslot (q4 k hk)) rfl rfl hdg fun H' e1 e2 e3 => ?_
  rw [hsl] at e1 ⊢
  exact kk H' _ (V.put e2 e3 ha (V.1.set e2 e3 (ws_i hI hty9).1 (x_setcell hc hci ht hap hk q2 q3 q4 (fun j _ => (ws_i hI hty9).2 j) e1)))
/-! class objects -/
theorem x_ldcM (X : Cx D dA s0 p m c cc nL s args own meth) (hlink : Cond.classLink own index "[Ljava/lang/Object;" ∈ lw_all) (hdg : decode cc pc = .ok (.ldc index, 2))
    (kk : W p l e Rm s m args below meth c H locs cells slots Q (F0 m (pc + 2) ls (.ref (dA 250) :: rest))) : W p l e Rm s m args below meth c H locs cells slots Q (F0 m pc ls rest) :=
  va_ldcM X.1.1 X.1.2.1 X.1.2.2.2.1 (X.1.2.2.2.2 _ hlink) X.2.2.2.2.2.1 hdg kk
theorem x_getC (X : Cx D dA s0 p m c cc nL s args own meth) (V : Iv D dA s0 s T N Z I L R H locs) {a : Nat} (ht : T a = 104) (h1 : Cond.methodLink own index ⟨"java/lang/Object", "getClass", "()Ljava/lang/Class;"⟩ ∈ lw_all) (h2 : Cond.declares ⟨"java/lang/Object", "getClass", "()Ljava/lang/Class;"⟩ ∈ lw_tbl) (h3 : Cond.selects "[Ljava/lang/Object;" ⟨"java/lang/Object", "getClass", "()Ljava/lang/Class;"⟩ ⟨"java/lang/Object", "getClass", "()Ljava/lang/Class;"⟩ ∈ lw_all) (h4 : Cond.instanceMethod ⟨"java/lang/Object", "getClass", "()Ljava/lang/Class;"⟩ ∈ lw_all) (h5 : Cond.native ⟨"java/lang/Object", "getClass", "()Ljava/lang/Class;"⟩ ∈ lw_all)
    (hsize : ls.size = nL) (hfr : 1 ≤ Rm.frames) (hlo : (rest.map fun v => v.category).sum + 14 ≤ Rm.locals) (hdg : decode cc pc = .ok (.invokevirtual index, 3))
    (kk : W p l e Rm s m args below meth c H locs cells slots Q (F0 m (pc + 3) ls (.ref (dA 250) :: rest))) : W p l e Rm s m args below meth c H locs cells slots Q (F0 m pc ls (.ref a :: rest)) :=
  va_getC X.1.1 X.1.2.1 (X.1.2.2.1.trans hsize.symm) X.1.2.2.2.1 (X.1.2.2.2.2 _ h1) (X.2.2.1.use h2 rfl) (X.1.2.2.2.2 _ h3) (X.1.2.2.2.2 _ h4) (X.1.2.2.2.2 _ h5) X.2.2.2.2.2.1 ⟨_, V.1.arr (k := 4) ht, rfl, va_nmO (X.2.1.1.2 4 _ rfl).2 rfl⟩ hfr hlo hdg kk
theorem x_acmpM (X : Cx D dA s0 p m c cc nL s args own meth) {q : Nat} {off : Int} (hdg : decode cc pc = .ok (.if_acmp .ne off, 3)) {tgt : Nat} (ht : (pc : Int) + off = (tgt : Int))
    (kf : W p l e Rm s m args below meth c H locs cells slots Q (F0 m (pc + 3) ls rest)) : W p l e Rm s m args below meth c H locs cells slots Q (F0 m pc ls (.ref q :: .ref q :: rest)) :=
  lv_acmp_ne (rx := some q) (ry := some q) X.1.1 X.1.2.1 hdg ht (fun h => absurd rfl h) (fun _ => kf)
/-! a call through Collection of ArrayList.toArray -/
theorem x_after5 {a : Array Value} (hr : va_Run5 p l e Rm s m args below meth c H locs cells slots mc ms (F0 m pc ls st0) rest (xQ D dA s0 v T' N' Z' I' L' R' a) (fun q => s0 ≤ q)) (V : Iv D dA s0 s T N Z I L R H locs)
    (kk : ∀ (H1 : Heap) (locs1 : List Loc), Iv D dA s0 s T' N' Z' I' L' R' H1 locs1 → W p l e Rm s m args below meth c H1 locs1 (cells + mc) (slots + ms) Q (F0 m (pc + 5) ls (v.toList ++ rest))) : W p l e Rm s m args below meth c H locs cells slots Q (F0 m pc ls st0) := by
  intro Tq hT X
  obtain ⟨v', st₀, t, T1, L1, h0, X', hL, e1, e2, ⟨hv, hrep, hbel⟩, st⟩ := hr Tq hT X
  cases hv
  obtain ⟨t2, a1, b1⟩ := kk T1.heap (locs ++ L1) ⟨by rw [e1]; exact hrep, fun q hq => by rw [e1, hbel q hq, h0]; exact V.2.1 q hq, fun z hz => by
    rcases List.mem_append.mp hz with h | h
    · exact V.2.2 z h
    · exact hL z h⟩ T1 rfl X'
  exact ⟨t2, st t2 a1, b1⟩
theorem lw_F (h1 : Cond.methodLink own index x ∈ lw_all) (h3 : Cond.selects C x y ∈ lw_all) (h4 : Cond.instanceMethod y ∈ lw_all) (h5 : Cond.initialized y.cls ∈ lw_all) (h6 : Cond.code y bytes maxL ret ∈ lw_all) : GoodIn lw_all (va_wsF own index C x y (ws_ y bytes maxL ret)) := by
  refine lw_app ?_ (lw_meth h6)
  intro w hw
  simp only [List.mem_cons, List.not_mem_nil, or_false] at hw
  rcases hw with q | q | q | q
  · rw [q]; exact h1
  · rw [q]; exact h3
  · rw [q]; exact h4
  · rw [q]; exact h5
theorem x_callF {count : Nat} (X : Cx D dA s0 p m c cc nL s args own meth) (V : Iv D dA s0 s T N Z I L R H locs) (hM : XMet l D dA s0 yTA (ws_ yTA bytes maxL ret) fr lo [.ref b] T N Z I L R v T' N' Z' I' L' R' mc ms) (ok : ClOK ci "java/util/ArrayList" Tf Nf) (hb : T b = ci + 1)
    (h1 : Cond.methodLink own index xTA ∈ lw_all) (h3 : Cond.selects "java/util/ArrayList" xTA yTA ∈ lw_all) (h4 : Cond.instanceMethod yTA ∈ lw_all) (h5 : Cond.initialized "java/util/ArrayList" ∈ lw_all) (h6 : Cond.code yTA bytes maxL ret ∈ lw_all) (hR : fr + 1 ≤ Rm.frames ∧ 8 + (maxL + 11) + lo ≤ Rm.locals)
    (hsize : ls.size = nL) (hW : (rest.map fun v => v.category).sum ≤ 8) (hdg : decode cc pc = .ok (.invokeinterface index count, 5)) (hf : cells + mc ≤ Rm.cells ∧ slots + ms ≤ Rm.slots)
    (kk : ∀ (H1 : Heap) (locs1 : List Loc), Iv D dA s0 s T' N' Z' I' L' R' H1 locs1 → W p l e Rm s m args below meth c H1 locs1 (cells + mc) (slots + ms) Q (F0 m (pc + 5) ls (v.toList ++ rest))) : W p l e Rm s m args below meth c H locs cells slots Q (F0 m pc ls (.ref b :: rest)) :=
  x_after5 (va_runF (X.2.1.1.1 ci _ ok.1).2 X.1 hM (va_cwF 0 X.1.2.2.2.2 (lw_F h1 h3 h4 h5 h6) rfl rfl rfl X.2.2.2.2.2.2.1 (by decide +kernel) hR) ⟨x_blind, x_recv X V ok hb, x_pre X V⟩ rfl rfl hsize rfl (lv_room hW) hdg hf) V kk
end XL
