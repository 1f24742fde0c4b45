/-! what lists hold, among the objects; printed by gen.py -/
section XTf
variable {p : Program} {l : Launch} {e : Env} {Rm : Room} {s : State} {m : MethodId} {args : Array Value} {below : List Frame} {meth : Method} {c : Code} {H : Heap} {locs : List Loc} {cells slots : Nat} {Q : State → Prop}
variable {cc : ByteArray} {pc nL index : Nat} {ls : Array Slot} {rest : List Value} {own : String} {D : va_G} {dA : Nat → ClassId} {s0 : Nat} {T N : xT} {Z : Nat} {I : xI} {L : xL} {R : xR}
theorem x_aastO (X : Cx D dA s0 p m c cc nL s args own meth) (V : Iv D dA s0 s T N Z I L R H locs) {a j v : Nat} {i : Int32} {R1 : xR} (ht : T a = 104) (hi : inb i (N a) = true) (hj : j = i.toNatClampNeg) (hv : stO (T v) = true) (hI : R1 = uR R a j (some v)) (hdg : decode cc pc = .ok (.aastore, 1))
    (kk : ∀ (H1 : Heap) (locs1 : List Loc), Iv D dA s0 s T N Z I L R1 H1 locs1 → W p l e Rm s m args below meth c H1 locs1 cells slots Q (F0 m (pc + 1) ls rest)) : W p l e Rm s m args below meth c H locs cells slots Q (F0 m pc ls (.ref v :: .int i :: .ref a :: rest)) := by
  rcases stO_or hv with h | h | h | h | h | h
  · exact x_aast X V (k := 4) rfl (by decide) ht hi hj okX9 h (Or.inr q2244) hI hdg kk
  · exact x_aast X V (k := 4) rfl (by decide) ht hi hj okX15 h (Or.inr q2248) hI hdg kk
  · exact x_aast X V (k := 4) rfl (by decide) ht hi hj okX16 h (Or.inr q2249) hI hdg kk
  · exact x_aast X V (k := 4) rfl (by decide) ht hi hj okX17 h (Or.inr q2250) hI hdg kk
  · exact x_aast X V (k := 4) rfl (by decide) ht hi hj okX18 h (Or.inr q2253) hI hdg kk
  · exact x_aast X V (k := 4) rfl (by decide) ht hi hj okX19 h (Or.inr q2251) hI hdg kk
theorem x_objO (X : Cx D dA s0 p m c cc nL s args own meth) (V : Iv D dA s0 s T N Z I L R H locs) {v : Nat} (hv : stO (T v) = true) : ∃ (cellV : Cell) (C : String), H[v]? = some cellV ∧ cellV.vm.isStatics = false ∧ s.vm.findClass C = some cellV.cls ∧ ∀ comp, s.vm.findClass "java/lang/Object" = some comp → s.vm.assignable cellV.cls comp = true := by
  rcases stO_or hv with h | h | h | h | h | h
  · obtain ⟨cell, g1, g2, g3⟩ := x_recv X V okX9 h
    obtain ⟨c0, t1, f1, f2, f3⟩ := Cond.castable_spec (X.2.2.1.use (args := args) q2244 rfl)
    cases g3.symm.trans f1
    exact ⟨cell, _, g1, g2, g3, fun comp hc => by cases hc.symm.trans f2; exact f3⟩
  · obtain ⟨cell, g1, g2, g3⟩ := x_recv X V okX15 h
    obtain ⟨c0, t1, f1, f2, f3⟩ := Cond.castable_spec (X.2.2.1.use (args := args) q2248 rfl)
    cases g3.symm.trans f1
    exact ⟨cell, _, g1, g2, g3, fun comp hc => by cases hc.symm.trans f2; exact f3⟩
  · obtain ⟨cell, g1, g2, g3⟩ := x_recv X V okX16 h
    obtain ⟨c0, t1, f1, f2, f3⟩ := Cond.castable_spec (X.2.2.1.use (args := args) q2249 rfl)
    cases g3.symm.trans f1
    exact ⟨cell, _, g1, g2, g3, fun comp hc => by cases hc.symm.trans f2; exact f3⟩
  · obtain ⟨cell, g1, g2, g3⟩ := x_recv X V okX17 h
    obtain ⟨c0, t1, f1, f2, f3⟩ := Cond.castable_spec (X.2.2.1.use (args := args) q2250 rfl)
    cases g3.symm.trans f1
    exact ⟨cell, _, g1, g2, g3, fun comp hc => by cases hc.symm.trans f2; exact f3⟩
  · obtain ⟨cell, g1, g2, g3⟩ := x_recv X V okX18 h
    obtain ⟨c0, t1, f1, f2, f3⟩ := Cond.castable_spec (X.2.2.1.use (args := args) q2253 rfl)
    cases g3.symm.trans f1
    exact ⟨cell, _, g1, g2, g3, fun comp hc => by cases hc.symm.trans f2; exact f3⟩
  · obtain ⟨cell, g1, g2, g3⟩ := x_recv X V okX19 h
    obtain ⟨c0, t1, f1, f2, f3⟩ := Cond.castable_spec (X.2.2.1.use (args := args) q2251 rfl)
    cases g3.symm.trans f1
    exact ⟨cell, _, g1, g2, g3, fun comp hc => by cases hc.symm.trans f2; exact f3⟩
theorem x_copyq (X : Cx D dA s0 p m c cc nL s args own meth) (V : Iv D dA s0 s T N Z I L R H locs) {a0 a : Nat} {sp dp nn : Int32} {R1 : xR} (hlink : Cond.methodLink own index arraycopyName ∈ lw_all) (hnat : Cond.native arraycopyName ∈ lw_all) (hstat : Cond.static arraycopyName ∈ lw_all) (hini : Cond.initialized "java/lang/System" ∈ lw_all)
    (ht0 : T a0 = 104) (ht1 : T a = 104) (hk : cpk N a0 sp a dp nn = true) (ho : cpo T R a0 sp.toNatClampNeg nn.toNatClampNeg = true) (hI : R1 = cpR R a0 sp.toNatClampNeg a dp.toNatClampNeg nn.toNatClampNeg) (hsize : ls.size = nL) (hfr : 1 ≤ Rm.frames) (hlo : (rest.map fun v => v.category).sum + (nativeFrameWords "java/lang/System" "arraycopy" 5 + 11) ≤ Rm.locals) (hdg : decode cc pc = .ok (.invokestatic index, 3))
    (kk : ∀ (H1 : Heap) (locs1 : List Loc), Iv D dA s0 s T N Z I L R1 H1 locs1 → W p l e Rm s m args below meth c H1 locs1 cells slots Q (F0 m (pc + 3) ls rest)) : W p l e Rm s m args below meth c H locs cells slots Q (F0 m pc ls (.int nn :: .int dp :: .ref a :: .int sp :: .ref a0 :: rest)) := by
  have hel : ∀ i : Nat, i < nn.toNatClampNeg → ∀ y : Nat, R a0 (sp.toNatClampNeg + i) = some y → ∃ (cellV : Cell) (C : String), H[y]? = some cellV ∧ cellV.vm.isStatics = false ∧ s.vm.findClass C = some cellV.cls ∧ ∀ comp, s.vm.findClass "java/lang/Object" = some comp → s.vm.assignable cellV.cls comp = true := fun i hi y hy => x_objO X V (cpo_s ho hi hy)
  obtain ⟨⟨hx, hb, hml, hown, hts⟩, hK, -, -, -⟩ := X
  obtain ⟨h1, h2, h3, h4, h5⟩ := cpk_s hk
  have ha : s0 ≤ a := V.1.ownd (by rw [ht1]; omega) (by rw [ht1]; omega) (by rw [ht1]; omega)
  have nnz : ∀ z : Int32, ¬ z < 0 → z.toInt = (z.toNatClampNeg : Int) := by
    intro z hz
    have hz0 : (0 : Int) ≤ z.toInt := by
      have := Int32.not_lt.mp hz
      simpa using Int32.le_iff_toInt_le.mp this
    show z.toInt = ((z.toInt.toNat : Nat) : Int)
    omega
  intro Tq hT X
  have hc0 : H[a0]? = some (vp_cell (dA 4) (N a0, .inr (.inr (.inr (.inr (R a0)))))) := V.1.arr (k := 4) ht0
  have hc1 : H[a]? = some (vp_cell (dA 4) (N a, .inr (.inr (.inr (.inr (R a)))))) := V.1.arr (k := 4) ht1
  obtain ⟨-, k0, hk0, cm0, hkk0⟩ := (hK.1.2 4 _ rfl).1 (N a0) (fun j => va_rf (R a0 j))
  obtain ⟨-, k1, hk1, cm1, hkk1⟩ := (hK.1.2 4 _ rfl).1 (N a) (fun j => va_rf (R a j))
  obtain ⟨vm', X', step⟩ := X.arraycopy hx hown (hts _ hlink) (hts _ hnat) (hts _ hstat) (hts _ hini) (src := a0) (dst := a) (cs := vp_cell (dA 4) (N a0, .inr (.inr (.inr (.inr (R a0)))))) (cd := vp_cell (dA 4) (N a, .inr (.inr (.inr (.inr (R a)))))) (srcPos := sp) (destPos := dp) (n := nn) (by rw [hT]; exact hc0) (by rw [hT]; exact hc1)
    (fun _ h => by cases h) (fun _ h => by cases h) (fun h => by cases h) (fun h => by cases h) hk0 hk1 hkk0 hkk1 rfl h1 h2 h3
    (by rw [nnz sp h1, nnz nn h3]; show ¬ _ > ((arrV (dA 4) (N a0) (fun j => va_rf (R a0 j))).slots.size : Int); rw [arrV_size]; omega)
    (by rw [nnz dp h2, nnz nn h3]; show ¬ _ > ((arrV (dA 4) (N a) (fun j => va_rf (R a j))).slots.size : Int); rw [arrV_size]; omega)
    (fun vm₁ hal i hi => by
      have e : (vp_cell (dA 4) (N a0, .inr (.inr (.inr (.inr (R a0)))))).slots.getD (sp.toNatClampNeg + i) .null = va_rf (R a0 (sp.toNatClampNeg + i)) := by
        show (arrV (dA 4) (N a0) (fun j => va_rf (R a0 j))).slots.getD _ _ = _
        rw [Array.getD_eq_getD_getElem?, arrV_read _ _ (by omega)]
        rfl
      rw [e]
      cases hy : R a0 (sp.toNatClampNeg + i) with
      | none => exact ⟨rfl, trivial⟩
      | some y =>
        obtain ⟨cellV, C, g1, g2, g3, g4⟩ := hel i hi y hy
        obtain ⟨kA, comp, r1, r2, r3, -⟩ := (hK.1.2 4 _ rfl).2
        cases hk1.symm.trans r1
        cases hkk1.symm.trans r2
        obtain ⟨kC, hkC, -⟩ := Vm.findClass_spec g3
        obtain ⟨kE, hkE, -⟩ := Vm.findClass_spec r3
        obtain ⟨kC', hkC', -⟩ := hal.2.2 _ _ hkC
        obtain ⟨kE', hkE', -⟩ := hal.2.2 _ _ hkE
        refine ⟨rfl, cellV, (show Tq.heap[y]? = some cellV by rw [hT]; exact g1), (fun q h => by rw [h] at g2; cases g2), ⟨kC', hkC'⟩, ?_, ?_⟩
        · exact ⟨kE', hkE'⟩
        · show vm₁.assignable _ _ = true
          rw [hal.assignable]
          exact g4 _ r3)
    (g := F0 m pc ls (.int nn :: .int dp :: .ref a :: .int sp :: .ref a0 :: rest)) rfl (by rw [hml]; exact hsize) (rest := rest) rfl (by rw [hb]; exact hdg) hfr (by show 2 * 0 + _ + _ ≤ _; omega)
  have e1 : copied (vp_cell (dA 4) (N a0, .inr (.inr (.inr (.inr (R a0)))))) (vp_cell (dA 4) (N a, .inr (.inr (.inr (.inr (R a)))))) sp dp nn = vp_cell (dA 4) (N a, .inr (.inr (.inr (.inr (va_cpy (R a0) (R a) sp.toNatClampNeg dp.toNatClampNeg nn.toNatClampNeg))))) := by
    rw [vp_cell_q, vp_cell_q, vp_cell_q]
    exact va_copied (fun z => va_rf z) (dA 4) (dA 4) (R a0) (R a) h4
  rw [e1] at X' step
  have hl : a < H.size := (Array.getElem?_eq_some_iff.mp hc1).1
  have hheap : ((Tq.setVm vm').setCell a (vp_cell (dA 4) (N a, .inr (.inr (.inr (.inr (va_cpy (R a0) (R a) sp.toNatClampNeg dp.toNatClampNeg nn.toNatClampNeg))))))).heap = H.setIfInBounds a (vp_cell (dA 4) (N a, .inr (.inr (.inr (.inr (va_cpy (R a0) (R a) sp.toNatClampNeg dp.toNatClampNeg nn.toNatClampNeg)))))) := by rw [← hT]; rfl
  have oq : ∀ q : Nat, q ≠ a → (H.setIfInBounds a (vp_cell (dA 4) (N a, .inr (.inr (.inr (.inr (va_cpy (R a0) (R a) sp.toNatClampNeg dp.toNatClampNeg nn.toNatClampNeg)))))))[q]? = H[q]? := fun q hq => by simp [Array.getElem?_setIfInBounds, Ne.symm hq]
  have eq1 : (H.setIfInBounds a (vp_cell (dA 4) (N a, .inr (.inr (.inr (.inr (va_cpy (R a0) (R a) sp.toNatClampNeg dp.toNatClampNeg nn.toNatClampNeg)))))))[a]? = some (vp_cell (dA 4) (N a, .inr (.inr (.inr (.inr (va_cpy (R a0) (R a) sp.toNatClampNeg dp.toNatClampNeg nn.toNatClampNeg)))))) := by simp [Array.getElem?_setIfInBounds, hl]
  have hset : Rep D dA s0 T N Z I L R1 (H.setIfInBounds a (vp_cell (dA 4) (N a, .inr (.inr (.inr (.inr (va_cpy (R a0) (R a) sp.toNatClampNeg dp.toNatClampNeg nn.toNatClampNeg))))))) := by
    refine V.1.set (by simp) oq (fun b hb => ⟨rfl, rfl, by subst hI; simp [cpR, hb]⟩) ?_
    subst hI
    rw [xAt_a (by rw [ht1]; omega) (by rw [ht1]; omega), ht1, eq1]
    simp only [cpR, if_true]
    rfl
  obtain ⟨t, a1, b1⟩ := kk _ _ ⟨hset, fun q hq => by rw [oq q (by omega)]; exact V.2.1 q hq, fun z hz => by
      rcases List.mem_append.mp hz with h | h
      · exact V.2.2 z h
      · obtain ⟨w, -, hw⟩ := List.mem_map.mp h
        rw [← hw]
        exact ha⟩ _ hheap X'
  exact ⟨t, step t a1, b1⟩
end XTf
