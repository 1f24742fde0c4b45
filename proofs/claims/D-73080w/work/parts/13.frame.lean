/-! MY KIT, 3: new cells, arrays of references, copies, calls of constructors and nest mates -/
section XS
variable {p : Program} {l : Launch} {e : Env} {Rm : Room} {s : State} {m : MethodId} {args : Array Value} {below : List Frame} {meth : Method} {c : Code} {H : Heap} {locs : List Loc} {cells slots : Nat} {Q : State → Prop}
variable {cc : ByteArray} {pc nL : Nat} {ls : Array Slot} {rest : List Value} {own : String} {D : va_G} {dA : Nat → ClassId} {s0 : Nat} {T N : xT} {Z : Nat} {I : xI} {L : xL} {R : xR}
theorem Rep.push (h : Rep D dA s0 T N Z I L R H) {H1 : Heap} {t n : Nat} (ht0 : t ≠ 0) (hz : H1.size = Z + 1) (ho : ∀ q, q < Z → H1[q]? = H[q]?) (hc : xAt D dA t n (fun _ => 0) (fun _ => 0) (fun _ => none) Z H1) : Rep D dA s0 (uT T Z t) (uT N Z n) (Z + 1) I L R H1 := by
  obtain ⟨h1, h2, h3, h4, h5⟩ := h
  refine ⟨fun b hb => ?_, hz, by omega, fun b hb => ?_, fun b hb => ?_⟩
  · by_cases hbz : b = Z
    · subst hbz
      obtain ⟨-, e1, e2, e3⟩ := h5 b (Nat.le_refl _)
      rw [e1, e2, e3]
      simp only [uT, if_true]
      exact hc
    · have hb' : T b ≠ 0 := by simpa [uT, hbz] using hb
      have hx := h1 b hb'
      have hl := hx.lt
      simp only [uT, if_neg hbz]
      exact hx.kept (ho b (by omega))
  · by_cases hbz : b = Z
    · exact Or.inl (by omega)
    · simp only [uT, if_neg hbz] at hb ⊢
      exact h4 b hb
  · have hbz : b ≠ Z := by omega
    simp only [uT, if_neg hbz]
    exact h5 b (by omega)
theorem Rep.pushN (h : Rep D dA s0 T N Z I L R H) {H1 : Heap} {t : Nat} (ht0 : t ≠ 0) (hlt : t < 100) (hz : H1.size = Z + 1) (ho : ∀ q, q < Z → H1[q]? = H[q]?) (hc : ∀ n, xAt D dA t n (fun _ => 0) (fun _ => 0) (fun _ => none) Z H1) : Rep D dA s0 (uT T Z t) N (Z + 1) I L R H1 := by
  obtain ⟨h1, h2, h3, h4, h5⟩ := h
  refine ⟨fun b hb => ?_, hz, by omega, fun b hb => ?_, fun b hb => ?_⟩
  · by_cases hbz : b = Z
    · subst hbz
      obtain ⟨-, e1, e2, e3⟩ := h5 b (Nat.le_refl _)
      rw [e1, e2, e3]
      simp only [uT, if_true]
      exact hc _
    · have hb' : T b ≠ 0 := by simpa [uT, hbz] using hb
      have hx := h1 b hb'
      have hl := hx.lt
      simp only [uT, if_neg hbz]
      exact hx.kept (ho b (by omega))
  · by_cases hbz : b = Z
    · exact Or.inl (by omega)
    · simp only [uT, if_neg hbz] at hb ⊢
      exact h4 b hb
  · have hbz : b ≠ Z := by omega
    simp only [uT, if_neg hbz]
    exact h5 b (by omega)
theorem Iv.push (V : Iv D dA s0 s T N Z I L R H locs) {H1 : Heap} {T' N' : xT} (ho : ∀ q, q < Z → H1[q]? = H[q]?) (hR : Rep D dA s0 T' N' (Z + 1) I L R H1) : Iv D dA s0 s T' N' (Z + 1) I L R H1 locs :=
  ⟨hR, fun q hq => by rw [ho q (by have := V.1.2.2.1; omega)]; exact V.2.1 q hq, V.2.2⟩
theorem x_new (X : Cx D dA s0 p m c cc nL s args own meth) (V : Iv D dA s0 s T N Z I L R H locs) {ci index Nf : Nat} {C : String} {Tf : u_T} (ok : ClOK ci C Tf Nf) {T' : xT} {Z' : Nat} (hT : T' = uT T Z (ci + 1)) (hZ : Z' = Z + 1) (hcl : Cond.classLink own index C ∈ lw_all) (hinst : Cond.instantiable C Nf ∈ lw_all) (hini : Cond.initialized C ∈ lw_all) (hcells : cells + 1 ≤ Rm.cells) (hslots : slots + Nf ≤ Rm.slots) (hdg : decode cc pc = .ok (.new index, 3))
    (kk : ∀ H1 : Heap, Iv D dA s0 s T' N Z' I L R H1 locs → W p l e Rm s m args below meth c H1 locs (cells + 1) (slots + Nf) Q (F0 m (pc + 3) ls (.ref Z :: rest))) : W p l e Rm s m args below meth c H locs cells slots Q (F0 m pc ls rest) := by
  subst hT; subst hZ
  obtain ⟨⟨hx, hb, hml, hown, hts⟩, hK, -, -, -⟩ := X
  obtain ⟨hc, hin, hci, hty, hnm⟩ := ok
  have hKn := hK.1.1 ci _ hc
  refine W.newcK hx hb hown (hts _ hcl) (hts _ hinst) (hts _ hini) rfl hdg hcells hslots hKn.2.1 V.1.2.1 fun H1 kC hkC e1 z1 o1 => ?_
  refine kk H1 (V.push o1 (V.1.pushN (by omega) (by omega) z1 o1 (fun n => ?_)))
  rw [xAt_o (by omega) (by omega), Nat.add_sub_cancel]
  refine ⟨_, hc, (u_born (tyT ci) hts hin hKn hkC e1 hty).to (fun k hk => ?_)⟩
  cases tyT ci k <;> rfl
theorem aty_def (k : Nat) : fval (aty k) 0 0 none = defaultValue (aty k) := by
  cases aty k <;> rfl
theorem x_newa (X : Cx D dA s0 p m c cc nL s args own meth) (V : Iv D dA s0 s T N Z I L R H locs) {atype : ArrayType} {k : Nat} (hk : newarray.typeOf atype = aty k) (hk4 : k < 4) (harr : Cond.arrayClass (aty k) ∈ lw_all) {n : Int32} {T' N' : xT} {Z' : Nat} (hn : szk n = true) (hT : T' = uT T Z (100 + k)) (hN : N' = uT N Z n.toNatClampNeg) (hZ : Z' = Z + 1) (hcells : cells + 1 ≤ Rm.cells) (hslots : slots + n.toNatClampNeg ≤ Rm.slots) (hdg : decode cc pc = .ok (.newarray atype, 2))
    (kk : ∀ H1 : Heap, Iv D dA s0 s T' N' Z' I L R H1 locs → W p l e Rm s m args below meth c H1 locs (cells + 1) (slots + n.toNatClampNeg) Q (F0 m (pc + 2) ls (.ref Z :: rest))) : W p l e Rm s m args below meth c H locs cells slots Q (F0 m pc ls (.int n :: rest)) := by
  subst hT; subst hN; subst hZ
  obtain ⟨⟨hx, hb, hml, hown, hts⟩, hK, -, -, -⟩ := X
  obtain ⟨hn0, hn1⟩ := szk_n hn
  have hty : (tysT dA)[k]? = some (dA k, aty k) := by
    rcases (show k = 0 ∨ k = 1 ∨ k = 2 ∨ k = 3 by omega) with h | h | h | h <;> (subst h; rfl)
  have hRA := (hK.1.2 k _ hty).2
  have hbt : n.toNatClampNeg * componentBytes (newarray.typeOf atype) ≤ 536870912 := by
    rw [hk]
    have h8 : componentBytes (aty k) ≤ 8 := by
      rcases (show k = 0 ∨ k = 1 ∨ k = 2 ∨ k = 3 by omega) with h | h | h | h <;> (subst h; decide)
    exact Nat.le_trans (Nat.mul_le_mul hn1 h8) (by decide)
  refine va_newaK hx hb (atype := atype) (by rw [hk]; exact hts _ harr) rfl hdg rfl hn0 rfl hbt hcells hslots V.1.2.1 fun H1 cA e1 z1 o1 hAr hNm => ?_
  have hcA : cA = dA k := by
    rw [hk] at hNm
    have h2 : s.vm.findClass ("[" ++ (aty k).toString) = some (dA k) := by
      rcases (show k = 0 ∨ k = 1 ∨ k = 2 ∨ k = 3 by omega) with h | h | h | h <;> (subst h; exact hRA)
    exact Option.some.inj (hNm.symm.trans h2)
  subst hcA
  refine kk H1 (V.push o1 (V.1.push (by omega) z1 o1 ?_))
  rw [xAt_a (by omega) (by omega), Nat.add_sub_cancel_left, e1, hk]
  congr 2
  funext j
  exact (aty_def k).symm
theorem x_anew (X : Cx D dA s0 p m c cc nL s args own meth) (V : Iv D dA s0 s T N Z I L R H locs) {k index : Nat} {C : String} (hk : aty k = .object C) (hk4 : 4 ≤ k) (hk7 : k < 7) (hcl : Cond.classLink own index C ∈ lw_all) {n : Int32} {T' N' : xT} {Z' : Nat} (hn : szk n = true) (hT : T' = uT T Z (100 + k)) (hN : N' = uT N Z n.toNatClampNeg) (hZ : Z' = Z + 1) (hcells : cells + 1 ≤ Rm.cells) (hslots : slots + n.toNatClampNeg ≤ Rm.slots) (hdg : decode cc pc = .ok (.anewarray index, 3))
    (kk : ∀ H1 : Heap, Iv D dA s0 s T' N' Z' I L R H1 locs → W p l e Rm s m args below meth c H1 locs (cells + 1) (slots + n.toNatClampNeg) Q (F0 m (pc + 3) ls (.ref Z :: rest))) : W p l e Rm s m args below meth c H locs cells slots Q (F0 m pc ls (.int n :: rest)) := by
  subst hT; subst hN; subst hZ
  obtain ⟨⟨hx, hb, hml, hown, hts⟩, hK, hNw, -, -⟩ := X
  obtain ⟨hn0, hn1⟩ := szk_n hn
  have hty : (tysT dA)[k]? = some (dA k, aty k) := by
    rcases (show k = 0 ∨ k = 1 ∨ k = 2 ∨ k = 3 ∨ k = 4 ∨ k = 5 ∨ k = 6 by omega) with h | h | h | h | h | h | h <;> (subst h; rfl)
  have hRA := (hK.1.2 k _ hty).2
  rw [hk] at hRA
  obtain ⟨kA0, comp0, -, -, -, hRA⟩ := hRA
  refine W.anew hx hb hown (hts _ hcl) (hNw.2 k hk4 hk7 C hk).use rfl hdg rfl hn0 (by omega) hcells hslots fun cA kA comp f1 f2 f3 f4 => ?_
  have hcA : cA = dA k := Option.some.inj (f1.symm.trans hRA)
  subst hcA
  have hsz := V.1.2.1
  generalize hH1 : H.push ({ cls := dA k, slots := Array.replicate n.toNatClampNeg .null, vm := .none } : Cell) = H1
  have z1 : H1.size = Z + 1 := by rw [← hH1, Array.size_push, hsz]
  have e1 : H1[Z]? = some (arrV (dA k) n.toNatClampNeg (fun _ => .null)) := by rw [← hH1, ← hsz, Array.getElem?_push_size, ← arrV_new]
  have o1 : ∀ q : Nat, q < Z → H1[q]? = H[q]? := fun q hq => by rw [← hH1, Array.getElem?_push, if_neg (by omega)]
  rw [hsz]
  refine kk H1 (V.push o1 (V.1.push (by omega) z1 o1 ?_))
  rw [xAt_a (by omega) (by omega), Nat.add_sub_cancel_left, e1, hk]
  rfl
theorem x_objInit (X : Cx D dA s0 p m c cc nL s args own meth) {index a : Nat} (h1 : Cond.methodLink own index Lib.objectInit ∈ lw_all) (h2 : Cond.instanceMethod Lib.objectInit ∈ lw_all) (h3 : Cond.code Lib.objectInit ⟨#[0xb1]⟩ 1 none ∈ lw_all) (hsize : ls.size = nL) (hfr : 1 ≤ Rm.frames) (hlo : (rest.map fun v => v.category).sum + 12 ≤ Rm.locals) (hdg : decode cc pc = .ok (.invokespecial index, 3))
    (kk : W p l e Rm s m args below meth c H locs cells slots Q (F0 m (pc + 3) ls rest)) : W p l e Rm s m args below meth c H locs cells slots Q (F0 m pc ls (.ref a :: rest)) :=
  W.objInit X.1.1 X.1.2.1 X.1.2.2.2.1 (X.1.2.2.2.2 _ h1) (X.1.2.2.2.2 _ h2) (X.1.2.2.2.2 _ h3) rfl (by rw [X.1.2.2.1]; exact hsize) rfl hdg hfr (by show 2 * 0 + _ + 12 ≤ _; omega) kk
theorem x_aald (X : Cx D dA s0 p m c cc nL s args own meth) (V : Iv D dA s0 s T N Z I L R H locs) {a j k : Nat} {i : Int32} {C : String} (hk : aty k = .object C) (hk8 : k < 7) (ht : T a = 100 + k) (hi : inb i (N a) = true) (hj : j = i.toNatClampNeg) (hdg : decode cc pc = .ok (.aaload, 1))
    (kk : W p l e Rm s m args below meth c H locs cells slots Q (F0 m (pc + 1) ls (va_rf (R a j) :: rest))) : W p l e Rm s m args below meth c H locs cells slots Q (F0 m pc ls (.int i :: .ref a :: rest)) := by
  subst hj
  have hty : (tysT dA)[k]? = some (dA k, aty k) := by
    rcases (show k = 0 ∨ k = 1 ∨ k = 2 ∨ k = 3 ∨ k = 4 ∨ k = 5 ∨ k = 6 by omega) with h | h | h | h | h | h | h <;> (subst h; rfl)
  exact W.aald (v := va_rf (R a i.toNatClampNeg)) (ty := aty k) X.1.1 X.1.2.1 (V.1.arr ht (by omega)) ((X.2.1.1.2 k _ hty).1 _ _) (by rw [hk]; rfl) (fun q => by cases q) (by rw [arrV_size]; exact inb_vp hi) (by rw [arrV_read _ _ (inb_lt hi), hk]; rfl) rfl rfl hdg kk
theorem x_aast (X : Cx D dA s0 p m c cc nL s args own meth) (V : Iv D dA s0 s T N Z I L R H locs) {a j k v ci Nf : Nat} {i : Int32} {C C1 : String} {Tf : u_T} {R' : xR} (hk : aty k = .object C) (hk7 : k < 7) (ht : T a = 100 + k) (hi : inb i (N a) = true) (hj : j = i.toNatClampNeg) (ok : ClOK ci C1 Tf Nf) (hv : T v = ci + 1) (hcast : C1 = C ∨ Cond.castable C1 C ∈ lw_tbl) (hI : R' = uR R a j (some v)) (hdg : decode cc pc = .ok (.aastore, 1))
    (kk : ∀ (H1 : Heap) (locs1 : List Loc), Iv D dA s0 s T N Z I L R' H1 locs1 → W p l e Rm s m args below meth c H1 locs1 cells slots Q (F0 m (pc + 1) ls rest)) : W p l e Rm s m args below meth c H locs cells slots Q (F0 m pc ls (.ref v :: .int i :: .ref a :: rest)) := by
  subst hj
  have ha : s0 ≤ a := V.1.ownd (by rw [ht]; omega) (by rw [ht]; omega) (by rw [ht]; omega)
  have hty : (tysT dA)[k]? = some (dA k, aty k) := by
    rcases (show k = 0 ∨ k = 1 ∨ k = 2 ∨ k = 3 ∨ k = 4 ∨ k = 5 ∨ k = 6 by omega) with h | h | h | h | h | h | h <;> (subst h; rfl)
  obtain ⟨r', hr', cellV, g1, g2, g3, -⟩ := V.1.obj hv ok.2.2.1
  have hcls := (X.2.1.1.1 ci _ ok.1).2
  have hRA := (X.2.1.1.2 k _ hty).2
  rw [hk] at hRA
  obtain ⟨kA, comp, k1, k2, k3, -⟩ := hRA
  obtain ⟨kE, hkE, -⟩ := Vm.findClass_spec k3
  obtain ⟨kC, hkC, -⟩ := hcls.2
  have hasg : s.vm.assignable (D.1 ci) comp = true := by
    rcases hcast with hq | hq
    · subst hq
      have hcomp : comp = D.1 ci := Option.some.inj (k3.symm.trans hcls.1)
      subst hcomp
      exact va_assign hcls
    · obtain ⟨c0, t1, f1, f2, f3⟩ := Cond.castable_spec (X.2.2.1.use (args := args) hq rfl)
      cases hcls.1.symm.trans f1
      cases k3.symm.trans f2
      exact f3
  refine W.aast X.1.1 X.1.2.1 (V.1.arr ht (by omega)) (fun q h => by cases h) (fun h => by cases h) k1 k2 rfl hkE ⟨fun h => inb_vp hi (Or.inl h), by rw [arrV_size]; exact inb_lt hi⟩ g1 (fun q h => by rw [g3] at h; cases h) (by rw [g2]; exact hkC) (by rw [g2]; exact hasg) rfl rfl hdg fun H1 e1 z oq => ?_
  refine kk H1 _ (V.put z oq ha (V.1.set z oq (fun b hb => ⟨rfl, rfl, by subst hI; simp [uR, hb]⟩) (x_setarr ht (by omega) (fun q => ?_) e1)))
  subst hI
  rw [hk]
  by_cases hq : q = i.toNatClampNeg
  · subst hq; simp [uR, va_up, updV, fval, va_rf]
  · simp [uR, va_up, updV, hq]
theorem x_castS (X : Cx D dA s0 p m c cc nL s args own meth) (V : Iv D dA s0 s T N Z I L R H locs) {a ci index Nf : Nat} {C : String} {Tf : u_T} (ok : ClOK ci C Tf Nf) (ht : T a = ci + 1) (hcl : Cond.classLink own index C ∈ lw_all) (hdg : decode cc pc = .ok (.checkcast index, 3))
    (k : W p l e Rm s m args below meth c H locs cells slots Q (F0 m (pc + 3) ls (.ref a :: rest))) : W p l e Rm s m args below meth c H locs cells slots Q (F0 m pc ls (.ref a :: rest)) :=
  va_castS X.1.1 X.1.2.1 X.1.2.2.2.1 (X.1.2.2.2.2 _ hcl) (X.2.1.1.1 ci _ ok.1).2 (x_recv X V ok ht) hdg k
theorem x_castY (X : Cx D dA s0 p m c cc nL s args own meth) (V : Iv D dA s0 s T N Z I L R H locs) {a ci index Nf : Nat} {C C2 : String} {Tf : u_T} (ok : ClOK ci C Tf Nf) (ht : T a = ci + 1) (hcl : Cond.classLink own index C2 ∈ lw_all) (hca : Cond.castable C C2 ∈ lw_tbl) (hdg : decode cc pc = .ok (.checkcast index, 3))
    (k : W p l e Rm s m args below meth c H locs cells slots Q (F0 m (pc + 3) ls (.ref a :: rest))) : W p l e Rm s m args below meth c H locs cells slots Q (F0 m pc ls (.ref a :: rest)) :=
  va_castY X.1.1 X.1.2.1 X.1.2.2.2.1 (X.1.2.2.2.2 _ hcl) (X.2.2.1.1 _ hca rfl) (x_recv X V ok ht) hdg k
/-! ends that fill the room asked for -/
variable {mc ms : Nat}
theorem x_iretW (X : Cx D dA s0 p m c cc nL s args own meth) (V : Iv D dA s0 s T N Z I L R H locs) {v : Int32} (hr : meth.sig.returnType = some .int) (h1 : cells ≤ mc) (h2 : slots ≤ ms) (hdg : decode cc pc = .ok (.ireturn, 1)) : W p l e Rm s m args below meth c H locs cells slots (MQ below (xQ D dA s0 (some (.int v)) T N Z I L R) args s mc ms (fun q => s0 ≤ q)) (F0 m pc ls [.int v]) :=
  W.widen h1 h2 (x_iret X V hr hdg)
theorem x_zretW (X : Cx D dA s0 p m c cc nL s args own meth) (V : Iv D dA s0 s T N Z I L R H locs) {v : Int32} (hr : meth.sig.returnType = some .boolean) (h1 : cells ≤ mc) (h2 : slots ≤ ms) (hz : zb v = true) (hdg : decode cc pc = .ok (.ireturn, 1)) : W p l e Rm s m args below meth c H locs cells slots (MQ below (xQ D dA s0 (some (.int v)) T N Z I L R) args s mc ms (fun q => s0 ≤ q)) (F0 m pc ls [.int v]) :=
  W.widen h1 h2 (x_zret X V hr hz hdg)
theorem x_vretW (X : Cx D dA s0 p m c cc nL s args own meth) (V : Iv D dA s0 s T N Z I L R H locs) (hr : meth.sig.returnType = none) (h1 : cells ≤ mc) (h2 : slots ≤ ms) (hdg : decode cc pc = .ok (.return_, 1)) : W p l e Rm s m args below meth c H locs cells slots (MQ below (xQ D dA s0 none T N Z I L R) args s mc ms (fun q => s0 ≤ q)) (F0 m pc ls []) :=
  W.widen h1 h2 (x_vret X V hr hdg)
theorem x_aretW (X : Cx D dA s0 p m c cc nL s args own meth) (V : Iv D dA s0 s T N Z I L R H locs) {v : Nat} {rt : FieldType} (hr : meth.sig.returnType = some rt) (h1 : cells ≤ mc) (h2 : slots ≤ ms) (hrt : (∃ n, rt = .object n) ∨ ∃ t, rt = .array t) (hdg : decode cc pc = .ok (.areturn, 1)) : W p l e Rm s m args below meth c H locs cells slots (MQ below (xQ D dA s0 (some (.ref v)) T N Z I L R) args s mc ms (fun q => s0 ≤ q)) (F0 m pc ls [.ref v]) :=
  W.widen h1 h2 (x_aret X V hr hrt hdg)
variable {T' N' : xT} {Z' : Nat} {I' : xI} {L' : xL} {R' : xR} {v : Option Value}
variable {y : MethodName} {bytes : ByteArray} {maxL index n fr lo b ci Nf : Nat} {ret : Option FieldType} {As : List Value} {C host : String} {Tf : u_T} {st0 : List Value}
theorem x_callSN (X : Cx D dA s0 p m c cc nL s args own meth) (V : Iv D dA s0 s T N Z I L R H locs) (hM : XMet l D dA s0 y (ws_ y bytes maxL ret) fr lo As T N Z I L R v T' N' Z' I' L' R' mc ms)
    (h1 : Cond.methodLinkNest own index y host ∈ lw_tbl) (h2 : Cond.static y ∈ lw_all) (h3 : Cond.initialized y.cls ∈ lw_all) (h4 : Cond.code y bytes maxL ret ∈ lw_all)
    (hd : y.cls ≠ "java/lang/invoke/MethodHandle" ∧ y.cls ≠ "java/lang/invoke/VarHandle" ∧ (parseMethodDescriptor y.desc).map (fun d => d.parameters.length) = some n) (hR : fr + 1 ≤ Rm.frames ∧ 8 + (maxL + 11) + lo ≤ Rm.locals)
    (hn : As.length = n) (hsize : ls.size = nL) (hst : st0 = As.reverse ++ rest) (hW : (rest.map fun v => v.category).sum ≤ 8) (hdg : decode cc pc = .ok (.invokestatic index, 3)) (hf : cells + mc ≤ Rm.cells ∧ slots + ms ≤ Rm.slots)
    (kk : ∀ (H1 : Heap) (locs1 : List Loc), Iv D dA s0 s T' N' Z' I' L' R' H1 locs1 → W p l e Rm s m args below meth c H1 locs1 (cells + mc) (slots + ms) Q (F0 m (pc + 3) ls (v.toList ++ rest))) : W p l e Rm s m args below meth c H locs cells slots Q (F0 m pc ls st0) :=
  x_after (va_runSN X.1 hM ⟨va_cnB n X.1.2.2.2.2 (lw_meth h4) rfl rfl rfl (X.2.2.1.1 _ h1 rfl) (X.1.2.2.2.2 _ h3) hd hR, X.1.2.2.2.2 _ h2, trivial⟩ ⟨x_blind, x_pre X V⟩ rfl hn hsize hst (lv_room hW) hdg hf) V kk
theorem x_callIN (X : Cx D dA s0 p m c cc nL s args own meth) (V : Iv D dA s0 s T N Z I L R H locs) (hM : XMet l D dA s0 y (ws_ y bytes maxL none) fr lo (.ref b :: As) T N Z I L R v T' N' Z' I' L' R' mc ms)
    (h1 : Cond.methodLinkNest own index y host ∈ lw_tbl) (h2 : Cond.instanceMethod y ∈ lw_all) (h3 : Cond.initialized y.cls ∈ lw_all) (h4 : Cond.code y bytes maxL none ∈ lw_all) (hy : y.name = "<init>")
    (hd : y.cls ≠ "java/lang/invoke/MethodHandle" ∧ y.cls ≠ "java/lang/invoke/VarHandle" ∧ (parseMethodDescriptor y.desc).map (fun d => d.parameters.length) = some n) (hR : fr + 1 ≤ Rm.frames ∧ 8 + (maxL + 11) + lo ≤ Rm.locals)
    (hn : As.length = n) (hsize : ls.size = nL) (hst : st0 = As.reverse ++ .ref b :: rest) (hW : (rest.map fun v => v.category).sum ≤ 8) (hdg : decode cc pc = .ok (.invokespecial index, 3)) (hf : cells + mc ≤ Rm.cells ∧ slots + ms ≤ Rm.slots)
    (kk : ∀ (H1 : Heap) (locs1 : List Loc), Iv D dA s0 s T' N' Z' I' L' R' H1 locs1 → W p l e Rm s m args below meth c H1 locs1 (cells + mc) (slots + ms) Q (F0 m (pc + 3) ls (v.toList ++ rest))) : W p l e Rm s m args below meth c H locs cells slots Q (F0 m pc ls st0) :=
  x_after (va_runIN X.1 hM ⟨va_cnB n X.1.2.2.2.2 (lw_meth h4) rfl rfl rfl (X.2.2.1.1 _ h1 rfl) (X.1.2.2.2.2 _ h3) hd hR, hy, X.1.2.2.2.2 _ h2⟩ ⟨x_blind, x_pre X V⟩ rfl hn hsize hst (lv_room hW) hdg hf) V kk
theorem x_callSN0 (X : Cx D dA s0 p m c cc nL s args own meth) (V : Iv D dA s0 s T N Z I L R H locs) (hM : XMet l D dA s0 y (ws_ y bytes maxL ret) fr lo As T N Z I L R v T' N' Z' I' L' R' 0 0)
    (h1 : Cond.methodLinkNest own index y host ∈ lw_tbl) (h2 : Cond.static y ∈ lw_all) (h3 : Cond.initialized y.cls ∈ lw_all) (h4 : Cond.code y bytes maxL ret ∈ lw_all)
    (hd : y.cls ≠ "java/lang/invoke/MethodHandle" ∧ y.cls ≠ "java/lang/invoke/VarHandle" ∧ (parseMethodDescriptor y.desc).map (fun d => d.parameters.length) = some n) (hR : fr + 1 ≤ Rm.frames ∧ 8 + (maxL + 11) + lo ≤ Rm.locals)
    (hn : As.length = n) (hsize : ls.size = nL) (hst : st0 = As.reverse ++ rest) (hW : (rest.map fun v => v.category).sum ≤ 8) (hdg : decode cc pc = .ok (.invokestatic index, 3)) (hf : cells ≤ Rm.cells ∧ slots ≤ Rm.slots)
    (kk : ∀ (H1 : Heap) (locs1 : List Loc), Iv D dA s0 s T' N' Z' I' L' R' H1 locs1 → W p l e Rm s m args below meth c H1 locs1 cells slots Q (F0 m (pc + 3) ls (v.toList ++ rest))) : W p l e Rm s m args below meth c H locs cells slots Q (F0 m pc ls st0) :=
  x_callSN X V hM h1 h2 h3 h4 hd hR hn hsize hst hW hdg hf kk
theorem x_callIN0 (X : Cx D dA s0 p m c cc nL s args own meth) (V : Iv D dA s0 s T N Z I L R H locs) (hM : XMet l D dA s0 y (ws_ y bytes maxL none) fr lo (.ref b :: As) T N Z I L R v T' N' Z' I' L' R' 0 0)
    (h1 : Cond.methodLinkNest own index y host ∈ lw_tbl) (h2 : Cond.instanceMethod y ∈ lw_all) (h3 : Cond.initialized y.cls ∈ lw_all) (h4 : Cond.code y bytes maxL none ∈ lw_all) (hy : y.name = "<init>")
    (hd : y.cls ≠ "java/lang/invoke/MethodHandle" ∧ y.cls ≠ "java/lang/invoke/VarHandle" ∧ (parseMethodDescriptor y.desc).map (fun d => d.parameters.length) = some n) (hR : fr + 1 ≤ Rm.frames ∧ 8 + (maxL + 11) + lo ≤ Rm.locals)
    (hn : As.length = n) (hsize : ls.size = nL) (hst : st0 = As.reverse ++ .ref b :: rest) (hW : (rest.map fun v => v.category).sum ≤ 8) (hdg : decode cc pc = .ok (.invokespecial index, 3)) (hf : cells ≤ Rm.cells ∧ slots ≤ Rm.slots)
    (kk : ∀ (H1 : Heap) (locs1 : List Loc), Iv D dA s0 s T' N' Z' I' L' R' H1 locs1 → W p l e Rm s m args below meth c H1 locs1 cells slots Q (F0 m (pc + 3) ls (v.toList ++ rest))) : W p l e Rm s m args below meth c H locs cells slots Q (F0 m pc ls st0) :=
  x_callIN X V hM h1 h2 h3 h4 hy hd hR hn hsize hst hW hdg hf kk
theorem x_callI0 (X : Cx D dA s0 p m c cc nL s args own meth) (V : Iv D dA s0 s T N Z I L R H locs) (hM : XMet l D dA s0 y (ws_ y bytes maxL none) fr lo (.ref b :: As) T N Z I L R v T' N' Z' I' L' R' 0 0)
    (h1 : Cond.methodLink own index y ∈ lw_all) (h2 : Cond.instanceMethod y ∈ lw_all) (h3 : Cond.initialized y.cls ∈ lw_all) (h4 : Cond.code y bytes maxL none ∈ lw_all) (hy : y.name = "<init>")
    (hd : y.cls ≠ "java/lang/invoke/MethodHandle" ∧ y.cls ≠ "java/lang/invoke/VarHandle" ∧ (parseMethodDescriptor y.desc).map (fun d => d.parameters.length) = some n) (hR : fr + 1 ≤ Rm.frames ∧ 8 + (maxL + 11) + lo ≤ Rm.locals)
    (hn : As.length = n) (hsize : ls.size = nL) (hst : st0 = As.reverse ++ .ref b :: rest) (hW : (rest.map fun v => v.category).sum ≤ 8) (hdg : decode cc pc = .ok (.invokespecial index, 3)) (hf : cells ≤ Rm.cells ∧ slots ≤ Rm.slots)
    (kk : ∀ (H1 : Heap) (locs1 : List Loc), Iv D dA s0 s T' N' Z' I' L' R' H1 locs1 → W p l e Rm s m args below meth c H1 locs1 cells slots Q (F0 m (pc + 3) ls (v.toList ++ rest))) : W p l e Rm s m args below meth c H locs cells slots Q (F0 m pc ls st0) :=
  x_callI X V hM h1 h2 h3 h4 hy hd hR hn hsize hst hW hdg hf kk
/-! static fields -/
theorem x_vaS (V : Iv D dA s0 s T N Z I L R H locs) (hs : s0 ≤ s.heap.size) (hz : s.heap.size ≤ Z) : va_S (fun q => s0 ≤ q) s.heap H locs := ⟨by rw [V.1.2.1]; exact hz, fun q _ h2 => V.2.1 q (by omega), V.2.2⟩
theorem x_getsG (X : Cx D dA s0 p m c cc nL s args own meth) (V : Iv D dA s0 s T N Z I L R H locs) {C nm d : String} {w : Value} {index : Nat} (hZ : va_Z C nm d w (fun q => s0 ≤ q) s s.heap) (hlink : Cond.fieldLink own index C nm d ∈ lw_all) (hdg : decode cc pc = .ok (.getstatic index, 3))
    (kk : W p l e Rm s m args below meth c H locs cells slots Q (F0 m (pc + 3) ls (w :: rest))) : W p l e Rm s m args below meth c H locs cells slots Q (F0 m pc ls rest) := by
  obtain ⟨cf, kf, fi, f, a, cell, h1, h2, h3, h4, h5, h6, h7, h8⟩ := hZ
  exact W.gets X.1.1 X.1.2.1 X.1.2.2.2.1 (X.1.2.2.2.2 _ hlink) h1 h2 h3 h4 (by rw [V.2.1 a (by omega)]; exact h5) (fun e => by rw [e] at h6; cases h6) h7 rfl hdg kk
theorem x_gets0 (X : Cx D dA s0 p m c cc nL s args own meth) (V : Iv D dA s0 s T N Z I L R H locs) {index : Nat} (hlink : Cond.fieldLink own index "java/lang/Throwable" "UNASSIGNED_STACK" "[Ljava/lang/StackTraceElement;" ∈ lw_all) (hdg : decode cc pc = .ok (.getstatic index, 3))
    (kk : W p l e Rm s m args below meth c H locs cells slots Q (F0 m (pc + 3) ls (va_rf (sv dA 0) :: rest))) : W p l e Rm s m args below meth c H locs cells slots Q (F0 m pc ls rest) := x_getsG X V X.2.2.2.2.1.1 hlink hdg kk
theorem x_gets1 (X : Cx D dA s0 p m c cc nL s args own meth) (V : Iv D dA s0 s T N Z I L R H locs) {index : Nat} (hlink : Cond.fieldLink own index "java/lang/Throwable" "SUPPRESSED_SENTINEL" "Ljava/util/List;" ∈ lw_all) (hdg : decode cc pc = .ok (.getstatic index, 3))
    (kk : W p l e Rm s m args below meth c H locs cells slots Q (F0 m (pc + 3) ls (va_rf (sv dA 1) :: rest))) : W p l e Rm s m args below meth c H locs cells slots Q (F0 m pc ls rest) := x_getsG X V X.2.2.2.2.1.2.1 hlink hdg kk
theorem x_gets2 (X : Cx D dA s0 p m c cc nL s args own meth) (V : Iv D dA s0 s T N Z I L R H locs) {index : Nat} (hlink : Cond.fieldLink own index "jdk/internal/util/Preconditions" "SIOOBE_FORMATTER" "Ljava/util/function/BiFunction;" ∈ lw_all) (hdg : decode cc pc = .ok (.getstatic index, 3))
    (kk : W p l e Rm s m args below meth c H locs cells slots Q (F0 m (pc + 3) ls (va_rf (sv dA 2) :: rest))) : W p l e Rm s m args below meth c H locs cells slots Q (F0 m pc ls rest) := x_getsG X V X.2.2.2.2.1.2.2.1 hlink hdg kk
theorem x_getsC (X : Cx D dA s0 p m c cc nL s args own meth) (V : Iv D dA s0 s T N Z I L R H locs) {index : Nat} (hlink : Cond.fieldLink own index "java/lang/String" "COMPACT_STRINGS" "Z" ∈ lw_all) (hdg : decode cc pc = .ok (.getstatic index, 3))
    (kk : W p l e Rm s m args below meth c H locs cells slots Q (F0 m (pc + 3) ls (.int 1 :: rest))) : W p l e Rm s m args below meth c H locs cells slots Q (F0 m pc ls rest) := x_getsG X V X.2.2.2.2.1.2.2.2 hlink hdg kk
theorem rf_n {ty : FieldType} {x : Option Nat} (h : (match ty with | .object _ => true | .array _ => true | _ => false) = true) : narrow ty (va_rf x) = va_rf x := by
  cases ty <;> first | (exact absurd h (by decide)) | (cases x <;> rfl)
theorem rf_f {ty : FieldType} {x : Option Nat} (h : (match ty with | .object _ => true | .array _ => true | _ => false) = true) : fits ty (va_rf x) = true := by
  cases ty <;> first | (exact absurd h (by decide)) | (cases x <;> rfl)
theorem x_aastN (X : Cx D dA s0 p m c cc nL s args own meth) (V : Iv D dA s0 s T N Z I L R H locs) {a j k : Nat} {i : Int32} {R1 : xR} {C : String} (hk : aty k = .object C) (hk7 : k < 7) (ht : T a = 100 + k) (hi : inb i (N a) = true) (hj : j = i.toNatClampNeg) (hI : R1 = uR R a j none) (hdg : decode cc pc = .ok (.aastore, 1))
    (kk : ∀ (H1 : Heap) (locs1 : List Loc), Iv D dA s0 s T N Z I L R1 H1 locs1 → W p l e Rm s m args below meth c H1 locs1 cells slots Q (F0 m (pc + 1) ls rest)) : W p l e Rm s m args below meth c H locs cells slots Q (F0 m pc ls (.null :: .int i :: .ref a :: rest)) := by
  subst hj
  have ha : s0 ≤ a := V.1.ownd (by rw [ht]; omega) (by rw [ht]; omega) (by rw [ht]; omega)
  have hty : (tysT dA)[k]? = some (dA k, aty k) := by
    rcases (show k = 0 ∨ k = 1 ∨ k = 2 ∨ k = 3 ∨ k = 4 ∨ k = 5 ∨ k = 6 by omega) with h | h | h | h | h | h | h <;> (subst h; rfl)
  have hA := (X.2.1.1.2 k _ hty).1
  rw [hk] at hA
  refine va_WaastN (C := C) X.1.1 X.1.2.1 (V.1.arr ht (by omega)) (hA _ _) (fun h => by cases h) (by rw [arrV_size]; exact inb_vp hi) rfl rfl hdg fun H1 e1 z oq => ?_
  refine kk H1 _ (V.put z oq ha (V.1.set z oq (fun b hb => ⟨rfl, rfl, by subst hI; simp [uR, hb]⟩) (x_setarr ht (by omega) (fun q => ?_) e1)))
  subst hI
  rw [hk]
  by_cases hq : q = i.toNatClampNeg
  · subst hq; simp [uR, va_up, updV, fval, va_rf]
  · simp [uR, va_up, updV, hq]
/-- System.arraycopy of ints -/
theorem x_copyi (X : Cx D dA s0 p m c cc nL s args own meth) (V : Iv D dA s0 s T N Z I L R H locs) {a0 a : Nat} {sp dp nn : Int32} {I1 : xI} (hlink : Cond.methodLink own index arraycopyName ∈ lw_all) (hnat : Cond.native arraycopyName ∈ lw_all) (hstat : Cond.static arraycopyName ∈ lw_all) (hini : Cond.initialized "java/lang/System" ∈ lw_all)
    (ht0 : T a0 = 100) (ht1 : T a = 100) (hk : cpk N a0 sp a dp nn = true) (hI : I1 = cpI I a0 sp.toNatClampNeg a dp.toNatClampNeg nn.toNatClampNeg) (hsize : ls.size = nL) (hfr : 1 ≤ Rm.frames) (hlo : (rest.map fun v => v.category).sum + (nativeFrameWords "java/lang/System" "arraycopy" 5 + 11) ≤ Rm.locals) (hdg : decode cc pc = .ok (.invokestatic index, 3))
    (kk : ∀ (H1 : Heap) (locs1 : List Loc), Iv D dA s0 s T N Z I1 L R H1 locs1 → W p l e Rm s m args below meth c H1 locs1 cells slots Q (F0 m (pc + 3) ls rest)) : W p l e Rm s m args below meth c H locs cells slots Q (F0 m pc ls (.int nn :: .int dp :: .ref a :: .int sp :: .ref a0 :: rest)) := by
  obtain ⟨⟨hx, hb, hml, hown, hts⟩, hK, -, -, -⟩ := X
  obtain ⟨h1, h2, h3, h4, h5⟩ := cpk_s hk
  have ha : s0 ≤ a := V.1.ownd (by rw [ht1]; omega) (by rw [ht1]; omega) (by rw [ht1]; omega)
  have nnz : ∀ z : Int32, ¬ z < 0 → z.toInt = (z.toNatClampNeg : Int) := by
    intro z hz
    have hz0 : (0 : Int) ≤ z.toInt := by
      have := Int32.not_lt.mp hz
      simpa using Int32.le_iff_toInt_le.mp this
    show z.toInt = ((z.toInt.toNat : Nat) : Int)
    omega
  intro Tq hT X
  have hc0 : H[a0]? = some (vp_cell (dA 0) (N a0, .inl (I a0))) := V.1.arr (k := 0) ht0
  have hc1 : H[a]? = some (vp_cell (dA 0) (N a, .inl (I a))) := V.1.arr (k := 0) ht1
  obtain ⟨-, k0, hk0, cm0, hkk0⟩ := (hK.1.2 0 _ rfl).1 (N a0) (fun j => .int (I a0 j))
  obtain ⟨-, k1, hk1, cm1, hkk1⟩ := (hK.1.2 0 _ rfl).1 (N a) (fun j => .int (I a j))
  obtain ⟨vm', X', step⟩ := X.arraycopy hx hown (hts _ hlink) (hts _ hnat) (hts _ hstat) (hts _ hini) (src := a0) (dst := a) (cs := vp_cell (dA 0) (N a0, .inl (I a0))) (cd := vp_cell (dA 0) (N a, .inl (I a))) (srcPos := sp) (destPos := dp) (n := nn) (by rw [hT]; exact hc0) (by rw [hT]; exact hc1)
    (fun _ h => by cases h) (fun _ h => by cases h) (fun h => by cases h) (fun h => by cases h) hk0 hk1 hkk0 hkk1 (by simp [aty, refKind]) h1 h2 h3
    (by rw [nnz sp h1, nnz nn h3]; show ¬ _ > ((arrV (dA 0) (N a0) (fun j => .int (I a0 j))).slots.size : Int); rw [arrV_size]; omega)
    (by rw [nnz dp h2, nnz nn h3]; show ¬ _ > ((arrV (dA 0) (N a) (fun j => .int (I a j))).slots.size : Int); rw [arrV_size]; omega)
    (fun vm₁ _ i hi => by
      have e : (vp_cell (dA 0) (N a0, .inl (I a0))).slots.getD (sp.toNatClampNeg + i) .null = .int (I a0 (sp.toNatClampNeg + i)) := by
        show (arrV (dA 0) (N a0) (fun j => .int (I a0 j))).slots.getD _ _ = _
        rw [Array.getD_eq_getD_getElem?, arrV_read _ _ (by omega)]
        rfl
      refine ⟨?_, ?_⟩
      · rw [e]
        rfl
      · rw [e]
        exact trivial)
    (g := F0 m pc ls (.int nn :: .int dp :: .ref a :: .int sp :: .ref a0 :: rest)) rfl (by rw [hml]; exact hsize) (rest := rest) rfl (by rw [hb]; exact hdg) hfr (by show 2 * 0 + _ + _ ≤ _; omega)
  have e1 : copied (vp_cell (dA 0) (N a0, .inl (I a0))) (vp_cell (dA 0) (N a, .inl (I a))) sp dp nn = vp_cell (dA 0) (N a, .inl (va_cpy (I a0) (I a) sp.toNatClampNeg dp.toNatClampNeg nn.toNatClampNeg)) := va_copied (fun z => .int z) (dA 0) (dA 0) (I a0) (I a) h4
  rw [e1] at X' step
  have hl : a < H.size := (Array.getElem?_eq_some_iff.mp hc1).1
  have hheap : ((Tq.setVm vm').setCell a (vp_cell (dA 0) (N a, .inl (va_cpy (I a0) (I a) sp.toNatClampNeg dp.toNatClampNeg nn.toNatClampNeg)))).heap = H.setIfInBounds a (vp_cell (dA 0) (N a, .inl (va_cpy (I a0) (I a) sp.toNatClampNeg dp.toNatClampNeg nn.toNatClampNeg))) := by rw [← hT]; rfl
  have oq : ∀ q : Nat, q ≠ a → (H.setIfInBounds a (vp_cell (dA 0) (N a, .inl (va_cpy (I a0) (I a) sp.toNatClampNeg dp.toNatClampNeg nn.toNatClampNeg))))[q]? = H[q]? := fun q hq => by simp [Array.getElem?_setIfInBounds, Ne.symm hq]
  have eq1 : (H.setIfInBounds a (vp_cell (dA 0) (N a, .inl (va_cpy (I a0) (I a) sp.toNatClampNeg dp.toNatClampNeg nn.toNatClampNeg))))[a]? = some (vp_cell (dA 0) (N a, .inl (va_cpy (I a0) (I a) sp.toNatClampNeg dp.toNatClampNeg nn.toNatClampNeg))) := by simp [Array.getElem?_setIfInBounds, hl]
  have hset : Rep D dA s0 T N Z I1 L R (H.setIfInBounds a (vp_cell (dA 0) (N a, .inl (va_cpy (I a0) (I a) sp.toNatClampNeg dp.toNatClampNeg nn.toNatClampNeg)))) := by
    refine V.1.set (by simp) oq (fun b hb => ⟨by subst hI; simp [cpI, hb], rfl, rfl⟩) ?_
    subst hI
    rw [xAt_a (by rw [ht1]; omega) (by rw [ht1]; omega), ht1, eq1]
    simp only [cpI, if_true]
    rfl
  obtain ⟨t, a1, b1⟩ := kk _ _ ⟨hset, fun q hq => by rw [oq q (by omega)]; exact V.2.1 q hq, fun z hz => by
      rcases List.mem_append.mp hz with h | h
      · exact V.2.2 z h
      · obtain ⟨w, -, hw⟩ := List.mem_map.mp h
        rw [← hw]
        exact ha⟩ _ hheap X'
  exact ⟨t, step t a1, b1⟩
end XS
