set_option maxHeartbeats 400000 in
set_option maxRecDepth 100000 in
theorem zX7_clause_b106 {nf : Nat} {dA : Nat → ClassId} {T : xT} {N : xT} {Z : Nat} {S : Nat} {I : xI} {L : xL} {R : xR}  {z0 : Int32} {ro : (Nat ⊕ Unit)} {To : xT} {No : xT} {Zo : Nat} {So : Nat} {Io : xI} {Ro : xR}  (hf : fX7_clause_b106 nf (sv dA) T N Z S I L R z0 = some (ro, To, No, Zo, So, Io, Ro)) : Z ≤ Zo ∧ S ≤ So := by
  unfold fX7_clause_b106 at hf
  cases hf
  exact ⟨Nat.le_refl _, Nat.le_refl _⟩
set_option maxHeartbeats 400000 in
set_option maxRecDepth 100000 in
theorem wX7_clause_b106 {nf : Nat} {kc ks : Nat} {cells slots : Nat} {p : Program} {l : Launch} {e : Env} {s : State} {m : MethodId} {args : Array Value} {below : List Frame} {meth : Method} {c : Code} {D : va_G} {dA : Nat → ClassId} {s0 : Nat} {T : xT} {N : xT} {Z : Nat} {S : Nat} {I : xI} {L : xL} {R : xR} {H : Heap} {locs : List Loc} {ls : Array Slot}  {z0 : Int32} {ro : (Nat ⊕ Unit)} {To : xT} {No : xT} {Zo : Nat} {So : Nat} {Io : xI} {Ro : xR} (X : Cx D dA s0 p m c cX7_clause 3 s args RX7 meth) (hr : meth.sig.returnType = none) (htE : c.exceptionTable.toList = [])   (hf : fX7_clause_b106 nf (sv dA) T N Z S I L R z0 = some (ro, To, No, Zo, So, Io, Ro)) (V : Iv D dA s0 s T N Z I L R H locs) (hl : lv_has ls 3 []) (hB : cells + (Zo - Z) ≤ kc ∧ slots + (So - S) ≤ ks) : W p l e { frames := 1489, cells := kc, slots := ks, locals := 31894 } s m args below meth c H locs cells slots (vx_MQ below (yQ D dA s0 (rV ro) To No Zo Io L Ro) (yX D dA s0 (rV ro) To No Zo Io L Ro) args s kc ks (fun q => s0 ≤ q)) (F0 m 106 ls [.int z0]) := by
  have hx := X.1.1
  have hb := X.1.2.1
  unfold fX7_clause_b106 at hf
  refine lv_pop (pc := 106) hx hb dX7_clause_106 rfl ?_
  cases hf
  exact y_vret (pc := 107) X V hr (by omega) (by omega) dX7_clause_107
set_option maxHeartbeats 400000 in
set_option maxRecDepth 100000 in
theorem zX7_clause_b98 {nf : Nat} {dA : Nat → ClassId} {T : xT} {N : xT} {Z : Nat} {S : Nat} {I : xI} {L : xL} {R : xR}  {x0 : Nat} {x2 : Nat} {ro : (Nat ⊕ Unit)} {To : xT} {No : xT} {Zo : Nat} {So : Nat} {Io : xI} {Ro : xR}  (hf : fX7_clause_b98 nf (sv dA) T N Z S I L R x0 x2 = some (ro, To, No, Zo, So, Io, Ro)) : Z ≤ Zo ∧ S ≤ So := by
  unfold fX7_clause_b98 at hf
  replace hf := tg_s hf; obtain ⟨ht1, hf⟩ := hf
  replace hf := bs hf; obtain ⟨a2, ha2, hf⟩ := hf
  replace hf := tg_s hf; obtain ⟨ht11, hf⟩ := hf
  replace hf := b7s hf; obtain ⟨r3, T4, N5, Z6, S7, I8, R9, hk_10, hf⟩ := hf
  have hm_hk_10 := zJ2_add hk_10
  have hm := zX7_clause_b106 hf
  exact ⟨by omega, by omega⟩
set_option maxHeartbeats 400000 in
set_option maxRecDepth 100000 in
theorem wX7_clause_b98 {nf : Nat} {kc ks : Nat} {cells slots : Nat} {p : Program} {l : Launch} {e : Env} {s : State} {m : MethodId} {args : Array Value} {below : List Frame} {meth : Method} {c : Code} {D : va_G} {dA : Nat → ClassId} {s0 : Nat} {T : xT} {N : xT} {Z : Nat} {S : Nat} {I : xI} {L : xL} {R : xR} {H : Heap} {locs : List Loc} {ls : Array Slot}  {x0 : Nat} {x2 : Nat} {ro : (Nat ⊕ Unit)} {To : xT} {No : xT} {Zo : Nat} {So : Nat} {Io : xI} {Ro : xR} (X : Cx D dA s0 p m c cX7_clause 3 s args RX7 meth) (hr : meth.sig.returnType = none) (htE : c.exceptionTable.toList = [])   (hf : fX7_clause_b98 nf (sv dA) T N Z S I L R x0 x2 = some (ro, To, No, Zo, So, Io, Ro)) (V : Iv D dA s0 s T N Z I L R H locs) (hl : lv_has ls 3 [(0, .ref x0), (2, .ref x2)]) (hB : cells + (Zo - Z) ≤ kc ∧ slots + (So - S) ≤ ks) : W p l e { frames := 1489, cells := kc, slots := ks, locals := 31894 } s m args below meth c H locs cells slots (vx_MQ below (yQ D dA s0 (rV ro) To No Zo Io L Ro) (yX D dA s0 (rV ro) To No Zo Io L Ro) args s kc ks (fun q => s0 ≤ q)) (F0 m 98 ls []) := by
  have hx := X.1.1
  have hb := X.1.2.1
  unfold fX7_clause_b98 at hf
  refine lv_aload_n (pc := 98) hx hb dX7_clause_98 rfl (lv_at hl 0 rfl) ?_
  replace hf := tg_s hf; obtain ⟨ht1, hf⟩ := hf
  replace hf := bs hf; obtain ⟨a2, ha2, hf⟩ := hf
  refine x_get (pc := 99) X V okX7 ht1 7 (by decide) q739 (v := va_rf (R x0 7)) rfl dX7_clause_99 ?_
  refine x_topr ha2 ?_
  refine lv_aload_n (pc := 102) hx hb dX7_clause_102 rfl (lv_at hl 1 rfl) ?_
  replace hf := tg_s hf; obtain ⟨ht11, hf⟩ := hf
  replace hf := b7s hf; obtain ⟨r3, T4, N5, Z6, S7, I8, R9, hk_10, hf⟩ := hf
  have hm_hk_10 := zJ2_add hk_10
  have hm := zX7_clause_b106 hf
  refine x_callV (pc := 103) (As := [.ref x2]) (rest := []) X V (mJ2_add l D dA s0 (kc := Z6 - Z) (ks := S7 - S) (Nat.le_refl _) (Nat.le_refl _) hk_10) okJ2 ht11 q1126 q1114 q1115 q124 q1116 ⟨rfl, hsJ2_add⟩ ⟨Nat.le_of_ble_eq_true rfl, Nat.le_of_ble_eq_true rfl⟩ rfl hl.1 rfl (Nat.le_of_ble_eq_true rfl) dX7_clause_103 ⟨by show _ ≤ kc; omega, by show _ ≤ ks; omega⟩ (fun H locs V => W.eq (g2 := F0 m 106 ls [.int r3]) rfl ?_)
  exact wX7_clause_b106 X hr htE hf V (lv_sub hl [] rfl) ⟨by omega, by omega⟩
set_option maxHeartbeats 400000 in
set_option maxRecDepth 100000 in
theorem zX7_clause_b95 {nf : Nat} {dA : Nat → ClassId} {T : xT} {N : xT} {Z : Nat} {S : Nat} {I : xI} {L : xL} {R : xR}  {x0 : Nat} {x2 : Nat} {z0 : Nat} {z1 : Nat} {ro : (Nat ⊕ Unit)} {To : xT} {No : xT} {Zo : Nat} {So : Nat} {Io : xI} {Ro : xR}  (hf : fX7_clause_b95 nf (sv dA) T N Z S I L R x0 x2 z0 z1 = some (ro, To, No, Zo, So, Io, Ro)) : Z ≤ Zo ∧ S ≤ So := by
  unfold fX7_clause_b95 at hf
  replace hf := tg_s hf; obtain ⟨ht1, hf⟩ := hf
  replace hf := nm_s hf; obtain ⟨R2, hR2, hf⟩ := hf
  have hm := zX7_clause_b98 hf
  exact ⟨by omega, by omega⟩
set_option maxHeartbeats 400000 in
set_option maxRecDepth 100000 in
theorem wX7_clause_b95 {nf : Nat} {kc ks : Nat} {cells slots : Nat} {p : Program} {l : Launch} {e : Env} {s : State} {m : MethodId} {args : Array Value} {below : List Frame} {meth : Method} {c : Code} {D : va_G} {dA : Nat → ClassId} {s0 : Nat} {T : xT} {N : xT} {Z : Nat} {S : Nat} {I : xI} {L : xL} {R : xR} {H : Heap} {locs : List Loc} {ls : Array Slot}  {x0 : Nat} {x2 : Nat} {z0 : Nat} {z1 : Nat} {ro : (Nat ⊕ Unit)} {To : xT} {No : xT} {Zo : Nat} {So : Nat} {Io : xI} {Ro : xR} (X : Cx D dA s0 p m c cX7_clause 3 s args RX7 meth) (hr : meth.sig.returnType = none) (htE : c.exceptionTable.toList = [])   (hf : fX7_clause_b95 nf (sv dA) T N Z S I L R x0 x2 z0 z1 = some (ro, To, No, Zo, So, Io, Ro)) (V : Iv D dA s0 s T N Z I L R H locs) (hl : lv_has ls 3 [(0, .ref x0), (2, .ref x2)]) (hB : cells + (Zo - Z) ≤ kc ∧ slots + (So - S) ≤ ks) : W p l e { frames := 1489, cells := kc, slots := ks, locals := 31894 } s m args below meth c H locs cells slots (vx_MQ below (yQ D dA s0 (rV ro) To No Zo Io L Ro) (yX D dA s0 (rV ro) To No Zo Io L Ro) args s kc ks (fun q => s0 ≤ q)) (F0 m 95 ls [.ref z1, .ref z0]) := by
  have hx := X.1.1
  have hb := X.1.2.1
  unfold fX7_clause_b95 at hf
  replace hf := tg_s hf; obtain ⟨ht1, hf⟩ := hf
  replace hf := nm_s hf; obtain ⟨R2, hR2, hf⟩ := hf
  refine x_putNr (pc := 95) X V okX9 (by decide) ht1 2 (by decide) q889 rfl hR2 (fun _ _ _ => rfl) (v := .ref z1) rfl rfl rfl dX7_clause_95 (fun H locs V => ?_)
  exact wX7_clause_b98 X hr htE hf V (lv_sub hl [0, 1] rfl) ⟨by omega, by omega⟩
set_option maxHeartbeats 400000 in
set_option maxRecDepth 100000 in
theorem zX7_clause_b81 {nf : Nat} {dA : Nat → ClassId} {T : xT} {N : xT} {Z : Nat} {S : Nat} {I : xI} {L : xL} {R : xR}  {x0 : Nat} {x2 : Nat} {ro : (Nat ⊕ Unit)} {To : xT} {No : xT} {Zo : Nat} {So : Nat} {Io : xI} {Ro : xR}  (hf : fX7_clause_b81 nf (sv dA) T N Z S I L R x0 x2 = some (ro, To, No, Zo, So, Io, Ro)) : Z ≤ Zo ∧ S ≤ So := by
  unfold fX7_clause_b81 at hf
  replace hf := bs hf; obtain ⟨a1, ha1, hf⟩ := hf
  replace hf := tg_s hf; obtain ⟨ht5, hf⟩ := hf
  replace hf := b2s hf; obtain ⟨r2, I3, hk_4, hf⟩ := hf
  rcases (Decidable.em (r2 = (ii 0))) with c6 | c6
  · replace hf := if_t hf c6
    have hm := zX7_clause_b98 hf
    exact ⟨by omega, by omega⟩
  · replace hf := if_f hf c6
    replace hf := b7s hf; obtain ⟨r7, T8, N9, Z10, S11, I12, R13, hk_14, hf⟩ := hf
    have hm_hk_14 := zX6_test_rX7 12 hk_14
    replace hf := xc_s hf; rcases hf with ⟨a15, hr_17, hf⟩ | ⟨v16, hr_17, hf⟩
    · skip
      replace hf := tg_s hf; obtain ⟨ht18, hf⟩ := hf
      cases hf
      exact ⟨by omega, by omega⟩
    · skip
      have hm := zX7_clause_b95 hf
      exact ⟨by omega, by omega⟩
set_option maxHeartbeats 400000 in
set_option maxRecDepth 100000 in
theorem wX7_clause_b81 {nf : Nat} {kc ks : Nat} {cells slots : Nat} {p : Program} {l : Launch} {e : Env} {s : State} {m : MethodId} {args : Array Value} {below : List Frame} {meth : Method} {c : Code} {D : va_G} {dA : Nat → ClassId} {s0 : Nat} {T : xT} {N : xT} {Z : Nat} {S : Nat} {I : xI} {L : xL} {R : xR} {H : Heap} {locs : List Loc} {ls : Array Slot}  {x0 : Nat} {x2 : Nat} {ro : (Nat ⊕ Unit)} {To : xT} {No : xT} {Zo : Nat} {So : Nat} {Io : xI} {Ro : xR} (X : Cx D dA s0 p m c cX7_clause 3 s args RX7 meth) (hr : meth.sig.returnType = none) (htE : c.exceptionTable.toList = [])   (hf : fX7_clause_b81 nf (sv dA) T N Z S I L R x0 x2 = some (ro, To, No, Zo, So, Io, Ro)) (V : Iv D dA s0 s T N Z I L R H locs) (hl : lv_has ls 3 [(0, .ref x0), (2, .ref x2)]) (hB : cells + (Zo - Z) ≤ kc ∧ slots + (So - S) ≤ ks) : W p l e { frames := 1489, cells := kc, slots := ks, locals := 31894 } s m args below meth c H locs cells slots (vx_MQ below (yQ D dA s0 (rV ro) To No Zo Io L Ro) (yX D dA s0 (rV ro) To No Zo Io L Ro) args s kc ks (fun q => s0 ≤ q)) (F0 m 81 ls []) := by
  have hx := X.1.1
  have hb := X.1.2.1
  unfold fX7_clause_b81 at hf
  refine lv_aload_n (pc := 81) hx hb dX7_clause_81 rfl (lv_at hl 0 rfl) ?_
  replace hf := bs hf; obtain ⟨a1, ha1, hf⟩ := hf
  refine x_ldcS (pc := 82) X 26 rfl ha1 dX7_clause_82 ?_
  replace hf := tg_s hf; obtain ⟨ht5, hf⟩ := hf
  replace hf := b2s hf; obtain ⟨r2, I3, hk_4, hf⟩ := hf
  refine x_callU (pc := 84) (As := [.ref a1]) (rest := []) X V (mX6_takes_rX7 l D dA s0 hk_4) okX7 ht5 q1032 q1033 q1035 q932 q133 q936 rfl hsX6_takes_rX7 ⟨Nat.le_of_ble_eq_true rfl, Nat.le_of_ble_eq_true rfl⟩ rfl hl.1 rfl (Nat.le_of_ble_eq_true rfl) dX7_clause_84 ⟨by show cells ≤ kc; omega, by show slots ≤ ks; omega⟩ (fun H locs V => W.eq (g2 := F0 m 87 ls [.int r2]) rfl ?_)
  refine lv_if_eq (pc := 87) (tgt := 98) hx hb dX7_clause_87 (by decide) (fun c6 => ?_) (fun c6 => ?_)
  · replace hf := if_t hf c6
    exact wX7_clause_b98 X hr htE hf V (lv_sub hl [0, 1] rfl) ⟨by omega, by omega⟩
  · replace hf := if_f hf c6
    refine lv_aload_n (pc := 90) hx hb dX7_clause_90 rfl (lv_at hl 1 rfl) ?_
    refine lv_aload_n (pc := 91) hx hb dX7_clause_91 rfl (lv_at hl 0 rfl) ?_
    replace hf := b7s hf; obtain ⟨r7, T8, N9, Z10, S11, I12, R13, hk_14, hf⟩ := hf
    have hm_hk_14 := zX6_test_rX7 12 hk_14
    replace hf := xc_s hf; rcases hf with ⟨a15, hr_17, hf⟩ | ⟨v16, hr_17, hf⟩
    · rw [hr_17] at hk_14
      replace hf := tg_s hf; obtain ⟨ht18, hf⟩ := hf
      have hzE : Z10 = Zo := by cases hf; rfl
      have hsE : S11 = So := by cases hf; rfl
      refine y_afterX (y_runU (pc := 92) (As := []) (rest := [.ref x2]) X V (mX6_test_rX7 l D dA s0 12 (kc := Z10 - Z) (ks := S11 - S) (Nat.le_refl _) (Nat.le_refl _) hk_14) okX7 ht5 q1036 q1037 q1039 q1040 q133 q1041 rfl hsX6_test_rX7 ⟨Nat.le_of_ble_eq_true rfl, Nat.le_of_ble_eq_true rfl⟩ rfl hl.1 rfl (Nat.le_of_ble_eq_true rfl) dX7_clause_92 ⟨by show _ ≤ kc; omega, by show _ ≤ ks; omega⟩) V (fun H locs V => ?_)
      cases hf
      exact y_out X V htE okX8 ht18 (by omega) (by omega)
    · rw [hr_17] at hk_14
      have hm := zX7_clause_b95 hf
      refine y_afterR (y_runU (pc := 92) (As := []) (rest := [.ref x2]) X V (mX6_test_rX7 l D dA s0 12 (kc := Z10 - Z) (ks := S11 - S) (Nat.le_refl _) (Nat.le_refl _) hk_14) okX7 ht5 q1036 q1037 q1039 q1040 q133 q1041 rfl hsX6_test_rX7 ⟨Nat.le_of_ble_eq_true rfl, Nat.le_of_ble_eq_true rfl⟩ rfl hl.1 rfl (Nat.le_of_ble_eq_true rfl) dX7_clause_92 ⟨by show _ ≤ kc; omega, by show _ ≤ ks; omega⟩) V (fun H locs V => W.eq (g2 := F0 m 95 ls [.ref v16, .ref x2]) rfl ?_)
      exact wX7_clause_b95 X hr htE hf V (lv_sub hl [0, 1] rfl) ⟨by omega, by omega⟩
set_option maxHeartbeats 400000 in
set_option maxRecDepth 100000 in
theorem zX7_clause_b78 {nf : Nat} {dA : Nat → ClassId} {T : xT} {N : xT} {Z : Nat} {S : Nat} {I : xI} {L : xL} {R : xR}  {x0 : Nat} {x2 : Nat} {z0 : Nat} {z1 : Nat} {ro : (Nat ⊕ Unit)} {To : xT} {No : xT} {Zo : Nat} {So : Nat} {Io : xI} {Ro : xR}  (hf : fX7_clause_b78 nf (sv dA) T N Z S I L R x0 x2 z0 z1 = some (ro, To, No, Zo, So, Io, Ro)) : Z ≤ Zo ∧ S ≤ So := by
  unfold fX7_clause_b78 at hf
  replace hf := tg_s hf; obtain ⟨ht1, hf⟩ := hf
  replace hf := nm_s hf; obtain ⟨R2, hR2, hf⟩ := hf
  have hm := zX7_clause_b81 hf
  exact ⟨by omega, by omega⟩
set_option maxHeartbeats 400000 in
set_option maxRecDepth 100000 in
theorem wX7_clause_b78 {nf : Nat} {kc ks : Nat} {cells slots : Nat} {p : Program} {l : Launch} {e : Env} {s : State} {m : MethodId} {args : Array Value} {below : List Frame} {meth : Method} {c : Code} {D : va_G} {dA : Nat → ClassId} {s0 : Nat} {T : xT} {N : xT} {Z : Nat} {S : Nat} {I : xI} {L : xL} {R : xR} {H : Heap} {locs : List Loc} {ls : Array Slot}  {x0 : Nat} {x2 : Nat} {z0 : Nat} {z1 : Nat} {ro : (Nat ⊕ Unit)} {To : xT} {No : xT} {Zo : Nat} {So : Nat} {Io : xI} {Ro : xR} (X : Cx D dA s0 p m c cX7_clause 3 s args RX7 meth) (hr : meth.sig.returnType = none) (htE : c.exceptionTable.toList = [])   (hf : fX7_clause_b78 nf (sv dA) T N Z S I L R x0 x2 z0 z1 = some (ro, To, No, Zo, So, Io, Ro)) (V : Iv D dA s0 s T N Z I L R H locs) (hl : lv_has ls 3 [(0, .ref x0), (2, .ref x2)]) (hB : cells + (Zo - Z) ≤ kc ∧ slots + (So - S) ≤ ks) : W p l e { frames := 1489, cells := kc, slots := ks, locals := 31894 } s m args below meth c H locs cells slots (vx_MQ below (yQ D dA s0 (rV ro) To No Zo Io L Ro) (yX D dA s0 (rV ro) To No Zo Io L Ro) args s kc ks (fun q => s0 ≤ q)) (F0 m 78 ls [.ref z1, .ref z0]) := by
  have hx := X.1.1
  have hb := X.1.2.1
  unfold fX7_clause_b78 at hf
  replace hf := tg_s hf; obtain ⟨ht1, hf⟩ := hf
  replace hf := nm_s hf; obtain ⟨R2, hR2, hf⟩ := hf
  refine x_putNr (pc := 78) X V okX9 (by decide) ht1 1 (by decide) q887 rfl hR2 (fun _ _ _ => rfl) (v := .ref z1) rfl rfl rfl dX7_clause_78 (fun H locs V => ?_)
  exact wX7_clause_b81 X hr htE hf V (lv_sub hl [0, 1] rfl) ⟨by omega, by omega⟩
set_option maxHeartbeats 400000 in
set_option maxRecDepth 100000 in
theorem zX7_clause_b62 {nf : Nat} {dA : Nat → ClassId} {T : xT} {N : xT} {Z : Nat} {S : Nat} {I : xI} {L : xL} {R : xR}  {x0 : Nat} {x1 : Int32} {z0 : Nat} {ro : (Nat ⊕ Unit)} {To : xT} {No : xT} {Zo : Nat} {So : Nat} {Io : xI} {Ro : xR}  (hf : fX7_clause_b62 nf (sv dA) T N Z S I L R x0 x1 z0 = some (ro, To, No, Zo, So, Io, Ro)) : Z ≤ Zo ∧ S ≤ So := by
  unfold fX7_clause_b62 at hf
  replace hf := bs hf; obtain ⟨I1, hk_2, hf⟩ := hf
  rcases (Decidable.em (x1 = (ii 2))) with c3 | c3
  · replace hf := if_t hf c3
    have hm := zX7_clause_b81 hf
    exact ⟨by omega, by omega⟩
  · replace hf := if_f hf c3
    replace hf := tg_s hf; obtain ⟨ht12, hf⟩ := hf
    replace hf := b7s hf; obtain ⟨r4, T5, N6, Z7, S8, I9, R10, hk_11, hf⟩ := hf
    have hm_hk_11 := zX6_sum_rX7 12 hk_11
    replace hf := xc_s hf; rcases hf with ⟨a13, hr_15, hf⟩ | ⟨v14, hr_15, hf⟩
    · skip
      replace hf := tg_s hf; obtain ⟨ht16, hf⟩ := hf
      cases hf
      exact ⟨by omega, by omega⟩
    · skip
      have hm := zX7_clause_b78 hf
      exact ⟨by omega, by omega⟩
set_option maxHeartbeats 400000 in
set_option maxRecDepth 100000 in
theorem wX7_clause_b62 {nf : Nat} {kc ks : Nat} {cells slots : Nat} {p : Program} {l : Launch} {e : Env} {s : State} {m : MethodId} {args : Array Value} {below : List Frame} {meth : Method} {c : Code} {D : va_G} {dA : Nat → ClassId} {s0 : Nat} {T : xT} {N : xT} {Z : Nat} {S : Nat} {I : xI} {L : xL} {R : xR} {H : Heap} {locs : List Loc} {ls : Array Slot}  {x0 : Nat} {x1 : Int32} {z0 : Nat} {ro : (Nat ⊕ Unit)} {To : xT} {No : xT} {Zo : Nat} {So : Nat} {Io : xI} {Ro : xR} (X : Cx D dA s0 p m c cX7_clause 3 s args RX7 meth) (hr : meth.sig.returnType = none) (htE : c.exceptionTable.toList = [])   (hf : fX7_clause_b62 nf (sv dA) T N Z S I L R x0 x1 z0 = some (ro, To, No, Zo, So, Io, Ro)) (V : Iv D dA s0 s T N Z I L R H locs) (hl : lv_has ls 3 [(0, .ref x0), (1, .int x1)]) (hB : cells + (Zo - Z) ≤ kc ∧ slots + (So - S) ≤ ks) : W p l e { frames := 1489, cells := kc, slots := ks, locals := 31894 } s m args below meth c H locs cells slots (vx_MQ below (yQ D dA s0 (rV ro) To No Zo Io L Ro) (yX D dA s0 (rV ro) To No Zo Io L Ro) args s kc ks (fun q => s0 ≤ q)) (F0 m 62 ls [.ref z0]) := by
  have hx := X.1.1
  have hb := X.1.2.1
  unfold fX7_clause_b62 at hf
  refine lv_dup (pc := 62) hx hb dX7_clause_62 rfl ?_
  refine lv_iload_n (pc := 63) hx hb dX7_clause_63 rfl (lv_at hl 1 rfl) ?_
  replace hf := bs hf; obtain ⟨I1, hk_2, hf⟩ := hf
  refine x_callI0 (pc := 64) (As := [.int x1]) (rest := [.ref z0]) X V (mX9_init l D dA s0 hk_2) q880 q881 q139 q882 rfl hsX9_init ⟨Nat.le_of_ble_eq_true rfl, Nat.le_of_ble_eq_true rfl⟩ rfl hl.1 rfl (Nat.le_of_ble_eq_true rfl) dX7_clause_64 ⟨by show cells ≤ kc; omega, by show slots ≤ ks; omega⟩ (fun H locs V => W.eq (g2 := F0 m 67 ls [.ref z0]) rfl ?_)
  refine lv_astore_n (pc := 67) (lv' := [(2, .ref z0), (0, .ref x0), (1, .int x1)]) hx hb dX7_clause_67 rfl hl (by decide) rfl (fun ls hl => ?_)
  refine lv_iload_n (pc := 68) hx hb dX7_clause_68 rfl (lv_at hl 2 rfl) ?_
  refine lv_iconst (pc := 69) (v := (ii 2)) hx hb dX7_clause_69 (by decide) ?_
  refine lv_icmp_eq (pc := 70) (tgt := 81) hx hb dX7_clause_70 (by decide) (fun c3 => ?_) (fun c3 => ?_)
  · replace hf := if_t hf c3
    exact wX7_clause_b81 X hr htE hf V (lv_sub hl [1, 0] rfl) ⟨by omega, by omega⟩
  · replace hf := if_f hf c3
    refine lv_aload_n (pc := 73) hx hb dX7_clause_73 rfl (lv_at hl 0 rfl) ?_
    refine lv_aload_n (pc := 74) hx hb dX7_clause_74 rfl (lv_at hl 1 rfl) ?_
    replace hf := tg_s hf; obtain ⟨ht12, hf⟩ := hf
    replace hf := b7s hf; obtain ⟨r4, T5, N6, Z7, S8, I9, R10, hk_11, hf⟩ := hf
    have hm_hk_11 := zX6_sum_rX7 12 hk_11
    replace hf := xc_s hf; rcases hf with ⟨a13, hr_15, hf⟩ | ⟨v14, hr_15, hf⟩
    · rw [hr_15] at hk_11
      replace hf := tg_s hf; obtain ⟨ht16, hf⟩ := hf
      have hzE : Z7 = Zo := by cases hf; rfl
      have hsE : S8 = So := by cases hf; rfl
      refine y_afterX (y_runU (pc := 75) (As := []) (rest := [.ref z0]) X V (mX6_sum_rX7 l D dA s0 12 (kc := Z7 - Z) (ks := S8 - S) (Nat.le_refl _) (Nat.le_refl _) hk_11) okX7 ht12 q897 q898 q900 q901 q133 q902 rfl hsX6_sum_rX7 ⟨Nat.le_of_ble_eq_true rfl, Nat.le_of_ble_eq_true rfl⟩ rfl hl.1 rfl (Nat.le_of_ble_eq_true rfl) dX7_clause_75 ⟨by show _ ≤ kc; omega, by show _ ≤ ks; omega⟩) V (fun H locs V => ?_)
      cases hf
      exact y_out X V htE okX8 ht16 (by omega) (by omega)
    · rw [hr_15] at hk_11
      have hm := zX7_clause_b78 hf
      refine y_afterR (y_runU (pc := 75) (As := []) (rest := [.ref z0]) X V (mX6_sum_rX7 l D dA s0 12 (kc := Z7 - Z) (ks := S8 - S) (Nat.le_refl _) (Nat.le_refl _) hk_11) okX7 ht12 q897 q898 q900 q901 q133 q902 rfl hsX6_sum_rX7 ⟨Nat.le_of_ble_eq_true rfl, Nat.le_of_ble_eq_true rfl⟩ rfl hl.1 rfl (Nat.le_of_ble_eq_true rfl) dX7_clause_75 ⟨by show _ ≤ kc; omega, by show _ ≤ ks; omega⟩) V (fun H locs V => W.eq (g2 := F0 m 78 ls [.ref v14, .ref z0]) rfl ?_)
      exact wX7_clause_b78 X hr htE hf V (lv_sub hl [1, 0] rfl) ⟨by omega, by omega⟩
set_option maxHeartbeats 400000 in
set_option maxRecDepth 100000 in
theorem zX7_clause_b55 {nf : Nat} {dA : Nat → ClassId} {T : xT} {N : xT} {Z : Nat} {S : Nat} {I : xI} {L : xL} {R : xR}  {x0 : Nat} {x1 : Int32} {ro : (Nat ⊕ Unit)} {To : xT} {No : xT} {Zo : Nat} {So : Nat} {Io : xI} {Ro : xR}  (hf : fX7_clause_b55 nf (sv dA) T N Z S I L R x0 x1 = some (ro, To, No, Zo, So, Io, Ro)) : Z ≤ Zo ∧ S ≤ So := by
  unfold fX7_clause_b55 at hf
  replace hf := tg_s hf; obtain ⟨ht3, hf⟩ := hf
  replace hf := bs hf; obtain ⟨I1, hk_2, hf⟩ := hf
  replace hf := nm_s hf; obtain ⟨T4, hT4, hf⟩ := hf
  replace hf := nm_s hf; obtain ⟨Z5, hZ5, hf⟩ := hf
  replace hf := nm_s hf; obtain ⟨S6, hS6, hf⟩ := hf
  have hm := zX7_clause_b62 hf
  exact ⟨by omega, by omega⟩
set_option maxHeartbeats 400000 in
set_option maxRecDepth 100000 in
theorem wX7_clause_b55 {nf : Nat} {kc ks : Nat} {cells slots : Nat} {p : Program} {l : Launch} {e : Env} {s : State} {m : MethodId} {args : Array Value} {below : List Frame} {meth : Method} {c : Code} {D : va_G} {dA : Nat → ClassId} {s0 : Nat} {T : xT} {N : xT} {Z : Nat} {S : Nat} {I : xI} {L : xL} {R : xR} {H : Heap} {locs : List Loc} {ls : Array Slot}  {x0 : Nat} {x1 : Int32} {ro : (Nat ⊕ Unit)} {To : xT} {No : xT} {Zo : Nat} {So : Nat} {Io : xI} {Ro : xR} (X : Cx D dA s0 p m c cX7_clause 3 s args RX7 meth) (hr : meth.sig.returnType = none) (htE : c.exceptionTable.toList = [])   (hf : fX7_clause_b55 nf (sv dA) T N Z S I L R x0 x1 = some (ro, To, No, Zo, So, Io, Ro)) (V : Iv D dA s0 s T N Z I L R H locs) (hl : lv_has ls 3 [(0, .ref x0), (1, .int x1)]) (hB : cells + (Zo - Z) ≤ kc ∧ slots + (So - S) ≤ ks) : W p l e { frames := 1489, cells := kc, slots := ks, locals := 31894 } s m args below meth c H locs cells slots (vx_MQ below (yQ D dA s0 (rV ro) To No Zo Io L Ro) (yX D dA s0 (rV ro) To No Zo Io L Ro) args s kc ks (fun q => s0 ≤ q)) (F0 m 55 ls []) := by
  have hx := X.1.1
  have hb := X.1.2.1
  unfold fX7_clause_b55 at hf
  refine lv_aload_n (pc := 55) hx hb dX7_clause_55 rfl (lv_at hl 0 rfl) ?_
  replace hf := tg_s hf; obtain ⟨ht3, hf⟩ := hf
  replace hf := bs hf; obtain ⟨I1, hk_2, hf⟩ := hf
  refine x_callU (pc := 56) (As := []) (rest := []) X V (mX6_next_rX7 l D dA s0 hk_2) okX7 ht3 q874 q875 q877 q777 q133 q781 rfl hsX6_next_rX7 ⟨Nat.le_of_ble_eq_true rfl, Nat.le_of_ble_eq_true rfl⟩ rfl hl.1 rfl (Nat.le_of_ble_eq_true rfl) dX7_clause_56 ⟨by show cells ≤ kc; omega, by show slots ≤ ks; omega⟩ (fun H locs V => W.eq (g2 := F0 m 59 ls []) rfl ?_)
  replace hf := nm_s hf; obtain ⟨T4, hT4, hf⟩ := hf
  replace hf := nm_s hf; obtain ⟨Z5, hZ5, hf⟩ := hf
  replace hf := nm_s hf; obtain ⟨S6, hS6, hf⟩ := hf
  have hm := zX7_clause_b62 hf
  refine x_new (pc := 59) X V okX9 hT4 hZ5 q878 q879 q139 (by show _ ≤ kc; omega) (by show _ ≤ ks; omega) dX7_clause_59 (fun H V => ?_)
  exact wX7_clause_b62 X hr htE hf V (lv_sub hl [0, 1] rfl) ⟨by omega, by omega⟩
set_option maxHeartbeats 400000 in
set_option maxRecDepth 100000 in
theorem zX7_clause_b52 {nf : Nat} {dA : Nat → ClassId} {T : xT} {N : xT} {Z : Nat} {S : Nat} {I : xI} {L : xL} {R : xR}  {x0 : Nat} {x1 : Int32} {z0 : Nat} {z1 : Int32} {ro : (Nat ⊕ Unit)} {To : xT} {No : xT} {Zo : Nat} {So : Nat} {Io : xI} {Ro : xR}  (hf : fX7_clause_b52 nf (sv dA) T N Z S I L R x0 x1 z0 z1 = some (ro, To, No, Zo, So, Io, Ro)) : Z ≤ Zo ∧ S ≤ So := by
  unfold fX7_clause_b52 at hf
  replace hf := tg_s hf; obtain ⟨ht9, hf⟩ := hf
  replace hf := b7s hf; obtain ⟨r1, T2, N3, Z4, S5, I6, R7, hk_8, hf⟩ := hf
  have hm_hk_8 := zX6_begins_rX7 hk_8
  replace hf := xc_s hf; rcases hf with ⟨a10, hr_12, hf⟩ | ⟨v11, hr_12, hf⟩
  · skip
    replace hf := tg_s hf; obtain ⟨ht13, hf⟩ := hf
    cases hf
    exact ⟨by omega, by omega⟩
  · skip
    have hm := zX7_clause_b55 hf
    exact ⟨by omega, by omega⟩
set_option maxHeartbeats 400000 in
set_option maxRecDepth 100000 in
theorem wX7_clause_b52 {nf : Nat} {kc ks : Nat} {cells slots : Nat} {p : Program} {l : Launch} {e : Env} {s : State} {m : MethodId} {args : Array Value} {below : List Frame} {meth : Method} {c : Code} {D : va_G} {dA : Nat → ClassId} {s0 : Nat} {T : xT} {N : xT} {Z : Nat} {S : Nat} {I : xI} {L : xL} {R : xR} {H : Heap} {locs : List Loc} {ls : Array Slot}  {x0 : Nat} {x1 : Int32} {z0 : Nat} {z1 : Int32} {ro : (Nat ⊕ Unit)} {To : xT} {No : xT} {Zo : Nat} {So : Nat} {Io : xI} {Ro : xR} (X : Cx D dA s0 p m c cX7_clause 3 s args RX7 meth) (hr : meth.sig.returnType = none) (htE : c.exceptionTable.toList = [])   (hf : fX7_clause_b52 nf (sv dA) T N Z S I L R x0 x1 z0 z1 = some (ro, To, No, Zo, So, Io, Ro)) (V : Iv D dA s0 s T N Z I L R H locs) (hl : lv_has ls 3 [(0, .ref x0), (1, .int x1)]) (hB : cells + (Zo - Z) ≤ kc ∧ slots + (So - S) ≤ ks) : W p l e { frames := 1489, cells := kc, slots := ks, locals := 31894 } s m args below meth c H locs cells slots (vx_MQ below (yQ D dA s0 (rV ro) To No Zo Io L Ro) (yX D dA s0 (rV ro) To No Zo Io L Ro) args s kc ks (fun q => s0 ≤ q)) (F0 m 52 ls [.int z1, .ref z0]) := by
  have hx := X.1.1
  have hb := X.1.2.1
  unfold fX7_clause_b52 at hf
  replace hf := tg_s hf; obtain ⟨ht9, hf⟩ := hf
  replace hf := b7s hf; obtain ⟨r1, T2, N3, Z4, S5, I6, R7, hk_8, hf⟩ := hf
  have hm_hk_8 := zX6_begins_rX7 hk_8
  replace hf := xc_s hf; rcases hf with ⟨a10, hr_12, hf⟩ | ⟨v11, hr_12, hf⟩
  · rw [hr_12] at hk_8
    replace hf := tg_s hf; obtain ⟨ht13, hf⟩ := hf
    have hzE : Z4 = Zo := by cases hf; rfl
    have hsE : S5 = So := by cases hf; rfl
    refine y_afterX (y_runU (pc := 52) (As := [.int z1]) (rest := []) X V (mX6_begins_rX7 l D dA s0 (kc := Z4 - Z) (ks := S5 - S) (Nat.le_refl _) (Nat.le_refl _) hk_8) okX7 ht9 q849 q850 q852 q853 q133 q854 rfl hsX6_begins_rX7 ⟨Nat.le_of_ble_eq_true rfl, Nat.le_of_ble_eq_true rfl⟩ rfl hl.1 rfl (Nat.le_of_ble_eq_true rfl) dX7_clause_52 ⟨by show _ ≤ kc; omega, by show _ ≤ ks; omega⟩) V (fun H locs V => ?_)
    cases hf
    exact y_out X V htE okX8 ht13 (by omega) (by omega)
  · rw [hr_12] at hk_8
    have hm := zX7_clause_b55 hf
    refine y_afterR (y_runU (pc := 52) (As := [.int z1]) (rest := []) X V (mX6_begins_rX7 l D dA s0 (kc := Z4 - Z) (ks := S5 - S) (Nat.le_refl _) (Nat.le_refl _) hk_8) okX7 ht9 q849 q850 q852 q853 q133 q854 rfl hsX6_begins_rX7 ⟨Nat.le_of_ble_eq_true rfl, Nat.le_of_ble_eq_true rfl⟩ rfl hl.1 rfl (Nat.le_of_ble_eq_true rfl) dX7_clause_52 ⟨by show _ ≤ kc; omega, by show _ ≤ ks; omega⟩) V (fun H locs V => W.eq (g2 := F0 m 55 ls []) rfl ?_)
    exact wX7_clause_b55 X hr htE hf V (lv_sub hl [0, 1] rfl) ⟨by omega, by omega⟩
set_option maxHeartbeats 400000 in
set_option maxRecDepth 100000 in
theorem zX7_clause_b40 {nf : Nat} {dA : Nat → ClassId} {T : xT} {N : xT} {Z : Nat} {S : Nat} {I : xI} {L : xL} {R : xR}  {x0 : Nat} {z0 : Int32} {ro : (Nat ⊕ Unit)} {To : xT} {No : xT} {Zo : Nat} {So : Nat} {Io : xI} {Ro : xR}  (hf : fX7_clause_b40 nf (sv dA) T N Z S I L R x0 z0 = some (ro, To, No, Zo, So, Io, Ro)) : Z ≤ Zo ∧ S ≤ So := by
  unfold fX7_clause_b40 at hf
  rcases (Decidable.em (z0 = (-1 : Int32))) with c1 | c1
  · replace hf := if_t hf c1
    have hm := zX7_clause_b52 hf
    exact ⟨by omega, by omega⟩
  · replace hf := if_f hf c1
    have hm := zX7_clause_b52 hf
    exact ⟨by omega, by omega⟩
set_option maxHeartbeats 400000 in
set_option maxRecDepth 100000 in
theorem wX7_clause_b40 {nf : Nat} {kc ks : Nat} {cells slots : Nat} {p : Program} {l : Launch} {e : Env} {s : State} {m : MethodId} {args : Array Value} {below : List Frame} {meth : Method} {c : Code} {D : va_G} {dA : Nat → ClassId} {s0 : Nat} {T : xT} {N : xT} {Z : Nat} {S : Nat} {I : xI} {L : xL} {R : xR} {H : Heap} {locs : List Loc} {ls : Array Slot}  {x0 : Nat} {z0 : Int32} {ro : (Nat ⊕ Unit)} {To : xT} {No : xT} {Zo : Nat} {So : Nat} {Io : xI} {Ro : xR} (X : Cx D dA s0 p m c cX7_clause 3 s args RX7 meth) (hr : meth.sig.returnType = none) (htE : c.exceptionTable.toList = [])   (hf : fX7_clause_b40 nf (sv dA) T N Z S I L R x0 z0 = some (ro, To, No, Zo, So, Io, Ro)) (V : Iv D dA s0 s T N Z I L R H locs) (hl : lv_has ls 3 [(0, .ref x0)]) (hB : cells + (Zo - Z) ≤ kc ∧ slots + (So - S) ≤ ks) : W p l e { frames := 1489, cells := kc, slots := ks, locals := 31894 } s m args below meth c H locs cells slots (vx_MQ below (yQ D dA s0 (rV ro) To No Zo Io L Ro) (yX D dA s0 (rV ro) To No Zo Io L Ro) args s kc ks (fun q => s0 ≤ q)) (F0 m 40 ls [.int z0]) := by
  have hx := X.1.1
  have hb := X.1.2.1
  unfold fX7_clause_b40 at hf
  refine lv_istore_n (pc := 40) (lv' := [(1, .int z0), (0, .ref x0)]) hx hb dX7_clause_40 rfl hl (by decide) rfl (fun ls hl => ?_)
  refine lv_aload_n (pc := 41) hx hb dX7_clause_41 rfl (lv_at hl 1 rfl) ?_
  refine lv_iload_n (pc := 42) hx hb dX7_clause_42 rfl (lv_at hl 0 rfl) ?_
  refine lv_iconst (pc := 43) (v := (-1 : Int32)) hx hb dX7_clause_43 (by decide) ?_
  refine lv_icmp_eq (pc := 44) (tgt := 51) hx hb dX7_clause_44 (by decide) (fun c1 => ?_) (fun c1 => ?_)
  · replace hf := if_t hf c1
    refine lv_iconst (pc := 51) (v := (ii 0)) hx hb dX7_clause_51 (by decide) ?_
    exact wX7_clause_b52 X hr htE hf V (lv_sub hl [1, 0] rfl) ⟨by omega, by omega⟩
  · replace hf := if_f hf c1
    refine lv_iconst (pc := 47) (v := (ii 1)) hx hb dX7_clause_47 (by decide) ?_
    refine lv_goto (pc := 48) (tgt := 52) hx hb dX7_clause_48 (by decide) ?_
    exact wX7_clause_b52 X hr htE hf V (lv_sub hl [1, 0] rfl) ⟨by omega, by omega⟩
set_option maxHeartbeats 400000 in
set_option maxRecDepth 100000 in
theorem zX7_clause {nf : Nat} {dA : Nat → ClassId} {T : xT} {N : xT} {Z : Nat} {S : Nat} {I : xI} {L : xL} {R : xR} {x0 : Nat} {ro : (Nat ⊕ Unit)} {To : xT} {No : xT} {Zo : Nat} {So : Nat} {Io : xI} {Ro : xR} (hf : fX7_clause nf (sv dA) T N Z S I L R x0 = some (ro, To, No, Zo, So, Io, Ro)) : Z ≤ Zo ∧ S ≤ So := by
  unfold fX7_clause at hf
  replace hf := bs hf; obtain ⟨a1, ha1, hf⟩ := hf
  replace hf := tg_s hf; obtain ⟨ht4, hf⟩ := hf
  replace hf := bs hf; obtain ⟨r2, hk_3, hf⟩ := hf
  rcases (Decidable.em (r2 = (ii 0))) with c5 | c5
  · replace hf := if_t hf c5
    replace hf := bs hf; obtain ⟨a6, ha6, hf⟩ := hf
    replace hf := bs hf; obtain ⟨r7, hk_8, hf⟩ := hf
    rcases (Decidable.em (r7 = (ii 0))) with c9 | c9
    · replace hf := if_t hf c9
      replace hf := bs hf; obtain ⟨a10, ha10, hf⟩ := hf
      replace hf := bs hf; obtain ⟨r11, hk_12, hf⟩ := hf
      rcases (Decidable.em (r11 = (ii 0))) with c13 | c13
      · replace hf := if_t hf c13
        have hm := zX7_clause_b40 hf
        exact ⟨by omega, by omega⟩
      · replace hf := if_f hf c13
        have hm := zX7_clause_b40 hf
        exact ⟨by omega, by omega⟩
    · replace hf := if_f hf c9
      have hm := zX7_clause_b40 hf
      exact ⟨by omega, by omega⟩
  · replace hf := if_f hf c5
    have hm := zX7_clause_b40 hf
    exact ⟨by omega, by omega⟩
set_option maxHeartbeats 400000 in
set_option maxRecDepth 100000 in
theorem wX7_clause_e {nf : Nat} {kc ks : Nat} {cells slots : Nat} {p : Program} {l : Launch} {e : Env} {s : State} {m : MethodId} {args : Array Value} {below : List Frame} {meth : Method} {c : Code} {D : va_G} {dA : Nat → ClassId} {s0 : Nat} {T : xT} {N : xT} {Z : Nat} {S : Nat} {I : xI} {L : xL} {R : xR} {H : Heap} {locs : List Loc} {ls : Array Slot} {x0 : Nat} {ro : (Nat ⊕ Unit)} {To : xT} {No : xT} {Zo : Nat} {So : Nat} {Io : xI} {Ro : xR} (X : Cx D dA s0 p m c cX7_clause 3 s args RX7 meth) (hr : meth.sig.returnType = none) (htE : c.exceptionTable.toList = []) (hf : fX7_clause nf (sv dA) T N Z S I L R x0 = some (ro, To, No, Zo, So, Io, Ro)) (V : Iv D dA s0 s T N Z I L R H locs) (hl : lv_has ls 3 [(0, .ref x0)]) (hB : cells + (Zo - Z) ≤ kc ∧ slots + (So - S) ≤ ks) : W p l e { frames := 1489, cells := kc, slots := ks, locals := 31894 } s m args below meth c H locs cells slots (vx_MQ below (yQ D dA s0 (rV ro) To No Zo Io L Ro) (yX D dA s0 (rV ro) To No Zo Io L Ro) args s kc ks (fun q => s0 ≤ q)) (F0 m 0 ls []) := by
  have hx := X.1.1
  have hb := X.1.2.1
  unfold fX7_clause at hf
  refine lv_aload_n (pc := 0) hx hb dX7_clause_0 rfl (lv_at hl 0 rfl) ?_
  replace hf := bs hf; obtain ⟨a1, ha1, hf⟩ := hf
  refine x_ldcS (pc := 1) X 0 rfl ha1 dX7_clause_1 ?_
  replace hf := tg_s hf; obtain ⟨ht4, hf⟩ := hf
  replace hf := bs hf; obtain ⟨r2, hk_3, hf⟩ := hf
  refine x_callU (pc := 3) (As := [.ref a1]) (rest := []) X V (mX6_is_rX7 l D dA s0 hk_3) okX7 ht4 q795 q796 q798 q799 q133 q800 rfl hsX6_is_rX7 ⟨Nat.le_of_ble_eq_true rfl, Nat.le_of_ble_eq_true rfl⟩ rfl hl.1 rfl (Nat.le_of_ble_eq_true rfl) dX7_clause_3 ⟨by show cells ≤ kc; omega, by show slots ≤ ks; omega⟩ (fun H locs V => W.eq (g2 := F0 m 6 ls [.int r2]) rfl ?_)
  refine lv_if_eq (pc := 6) (tgt := 13) hx hb dX7_clause_6 (by decide) (fun c5 => ?_) (fun c5 => ?_)
  · replace hf := if_t hf c5
    refine lv_aload_n (pc := 13) hx hb dX7_clause_13 rfl (lv_at hl 0 rfl) ?_
    replace hf := bs hf; obtain ⟨a6, ha6, hf⟩ := hf
    refine x_ldcS (pc := 14) X 1 rfl ha6 dX7_clause_14 ?_
    replace hf := bs hf; obtain ⟨r7, hk_8, hf⟩ := hf
    refine x_callU (pc := 16) (As := [.ref a6]) (rest := []) X V (mX6_is_rX7 l D dA s0 hk_8) okX7 ht4 q795 q796 q798 q799 q133 q800 rfl hsX6_is_rX7 ⟨Nat.le_of_ble_eq_true rfl, Nat.le_of_ble_eq_true rfl⟩ rfl hl.1 rfl (Nat.le_of_ble_eq_true rfl) dX7_clause_16 ⟨by show cells ≤ kc; omega, by show slots ≤ ks; omega⟩ (fun H locs V => W.eq (g2 := F0 m 19 ls [.int r7]) rfl ?_)
    refine lv_if_eq (pc := 19) (tgt := 26) hx hb dX7_clause_19 (by decide) (fun c9 => ?_) (fun c9 => ?_)
    · replace hf := if_t hf c9
      refine lv_aload_n (pc := 26) hx hb dX7_clause_26 rfl (lv_at hl 0 rfl) ?_
      replace hf := bs hf; obtain ⟨a10, ha10, hf⟩ := hf
      refine x_ldcS (pc := 27) X 2 rfl ha10 dX7_clause_27 ?_
      replace hf := bs hf; obtain ⟨r11, hk_12, hf⟩ := hf
      refine x_callU (pc := 29) (As := [.ref a10]) (rest := []) X V (mX6_is_rX7 l D dA s0 hk_12) okX7 ht4 q795 q796 q798 q799 q133 q800 rfl hsX6_is_rX7 ⟨Nat.le_of_ble_eq_true rfl, Nat.le_of_ble_eq_true rfl⟩ rfl hl.1 rfl (Nat.le_of_ble_eq_true rfl) dX7_clause_29 ⟨by show cells ≤ kc; omega, by show slots ≤ ks; omega⟩ (fun H locs V => W.eq (g2 := F0 m 32 ls [.int r11]) rfl ?_)
      refine lv_if_eq (pc := 32) (tgt := 39) hx hb dX7_clause_32 (by decide) (fun c13 => ?_) (fun c13 => ?_)
      · replace hf := if_t hf c13
        refine lv_iconst (pc := 39) (v := (-1 : Int32)) hx hb dX7_clause_39 (by decide) ?_
        exact wX7_clause_b40 X hr htE hf V (lv_sub hl [0] rfl) ⟨by omega, by omega⟩
      · replace hf := if_f hf c13
        refine lv_iconst (pc := 35) (v := (ii 2)) hx hb dX7_clause_35 (by decide) ?_
        refine lv_goto (pc := 36) (tgt := 40) hx hb dX7_clause_36 (by decide) ?_
        exact wX7_clause_b40 X hr htE hf V (lv_sub hl [0] rfl) ⟨by omega, by omega⟩
    · replace hf := if_f hf c9
      refine lv_iconst (pc := 22) (v := (ii 1)) hx hb dX7_clause_22 (by decide) ?_
      refine lv_goto (pc := 23) (tgt := 40) hx hb dX7_clause_23 (by decide) ?_
      exact wX7_clause_b40 X hr htE hf V (lv_sub hl [0] rfl) ⟨by omega, by omega⟩
  · replace hf := if_f hf c5
    refine lv_iconst (pc := 9) (v := (ii 0)) hx hb dX7_clause_9 (by decide) ?_
    refine lv_goto (pc := 10) (tgt := 40) hx hb dX7_clause_10 (by decide) ?_
    exact wX7_clause_b40 X hr htE hf V (lv_sub hl [0] rfl) ⟨by omega, by omega⟩
theorem mX7_clause {nf : Nat} (l : Launch) (D : va_G) (dA : Nat → ClassId) (s0 : Nat) {kc ks : Nat} {T : xT} {N : xT} {Z : Nat} {S : Nat} {I : xI} {L : xL} {R : xR} {x0 : Nat} {ro : (Nat ⊕ Unit)} {To : xT} {No : xT} {Zo : Nat} {So : Nat} {Io : xI} {Ro : xR} (hZ : Zo - Z ≤ kc) (hS : So - S ≤ ks) (hf : fX7_clause nf (sv dA) T N Z S I L R x0 = some (ro, To, No, Zo, So, Io, Ro)) : YMet l D dA s0 yX7_clause (ws_ yX7_clause cX7_clause 3 (none)) (1489) (31894) [.ref x0] T N Z I L R (rV ro) To No Zo Io L Ro kc ks :=
  y_start (own := RX7) rfl (by decide) (Nat.le_of_ble_eq_true rfl) (lv := [(0, .ref x0)]) rfl (fun p e s m below meth c ls X hr htE V hl => wX7_clause_e X hr htE hf V hl ⟨by omega, by omega⟩)
set_option maxHeartbeats 400000 in
set_option maxRecDepth 100000 in
theorem wX6_is_rX20_b20 {nf : Nat} {p : Program} {l : Launch} {e : Env} {s : State} {m : MethodId} {args : Array Value} {below : List Frame} {meth : Method} {c : Code} {D : va_G} {dA : Nat → ClassId} {s0 : Nat} {T : xT} {N : xT} {Z : Nat} {I : xI} {L : xL} {R : xR}  {ro : Int32} (X : Cx D dA s0 p m c cX6_is 3 s args RX6 meth) (hr : meth.sig.returnType = (some .boolean))   (k : Nat) : ∀ {x0 : Nat} {x1 : Nat} {x2 : Int32} {H : Heap} {locs : List Loc} {ls : Array Slot} , fX6_is_rX20_b20 nf (sv dA) T N I R k x0 x1 x2 = some ro → Iv D dA s0 s T N Z I L R H locs → lv_has ls 3 [(0, .ref x0), (1, .ref x1), (2, .int x2)] → W p l e { frames := 5, cells := 0, slots := 0, locals := 106 } s m args below meth c H locs 0 0 (MQ below (xQ D dA s0 (some (.int ro)) T N Z I L R) args s 0 0 (fun q => s0 ≤ q)) (F0 m 20 ls []) := by
  have hx := X.1.1
  have hb := X.1.2.1
  induction k with
  | zero =>
    intro x0 x1 x2 H locs ls hf V hl
    exact absurd (show none = some _ from hf) (fun q => nomatch q)
  | succ k ih =>
    intro x0 x1 x2 H locs ls hf V hl
    rw [fX6_is_rX20_b20] at hf
    refine lv_iload_n (pc := 20) hx hb dX6_is_20 rfl (lv_at hl 2 rfl) ?_
    refine lv_aload_n (pc := 21) hx hb dX6_is_21 rfl (lv_at hl 1 rfl) ?_
    replace hf := tg_s hf; obtain ⟨ht3, hf⟩ := hf
    replace hf := bs hf; obtain ⟨r1, hk_2, hf⟩ := hf
    refine x_callVS0 (pc := 22) (As := []) (rest := [.int x2]) X V (mJ8_length l D dA s0 hk_2) ht3 q801 q802 q803 q135 q804 ⟨rfl, hsJ8_length⟩ ⟨Nat.le_of_ble_eq_true rfl, Nat.le_of_ble_eq_true rfl⟩ rfl hl.1 rfl (Nat.le_of_ble_eq_true rfl) dX6_is_22 ⟨Nat.zero_le _, Nat.zero_le _⟩ (fun H locs V => W.eq (g2 := F0 m 25 ls [.int r1, .int x2]) rfl ?_)
    refine lv_icmp_ge (pc := 25) (tgt := 55) hx hb dX6_is_25 (by decide) (fun c4 => ?_) (fun c4 => ?_)
    · replace hf := if_t hf c4
      refine lv_iconst (pc := 55) (v := (ii 1)) hx hb dX6_is_55 (by decide) ?_
      cases hf
      exact x_zret (pc := 56) X V hr (by decide) dX6_is_56
    · replace hf := if_f hf c4
      refine lv_aload_n (pc := 28) hx hb dX6_is_28 rfl (lv_at hl 0 rfl) ?_
      replace hf := tg_s hf; obtain ⟨ht5, hf⟩ := hf
      replace hf := bs hf; obtain ⟨a6, ha6, hf⟩ := hf
      refine x_get (pc := 29) X V okX20 ht5 0 (by decide) q741 (v := va_rf (R x0 0)) rfl dX6_is_29 ?_
      refine x_topr ha6 ?_
      refine lv_aload_n (pc := 32) hx hb dX6_is_32 rfl (lv_at hl 0 rfl) ?_
      refine x_get (pc := 33) X V okX20 ht5 3 (by decide) q744 (v := .int (I x0 3)) rfl dX6_is_33 ?_
      refine lv_iload_n (pc := 36) hx hb dX6_is_36 rfl (lv_at hl 2 rfl) ?_
      refine lv_iadd (pc := 37) hx hb dX6_is_37 ?_
      replace hf := rA_s hf; obtain ⟨j7, hjj7, htj7, hij7, hf⟩ := hf
      refine x_bald (pc := 38) X V htj7 hij7 hjj7 dX6_is_38 ?_
      refine lv_aload_n (pc := 39) hx hb dX6_is_39 rfl (lv_at hl 1 rfl) ?_
      refine lv_iload_n (pc := 40) hx hb dX6_is_40 rfl (lv_at hl 2 rfl) ?_
      replace hf := bs hf; obtain ⟨r8, hk_9, hf⟩ := hf
      refine x_callVS0 (pc := 41) (As := [.int x2]) (rest := [.int (I a6 j7)]) X V (mJ8_charAt l D dA s0 hk_9) ht3 q811 q812 q813 q135 q814 ⟨rfl, hsJ8_charAt⟩ ⟨Nat.le_of_ble_eq_true rfl, Nat.le_of_ble_eq_true rfl⟩ rfl hl.1 rfl (Nat.le_of_ble_eq_true rfl) dX6_is_41 ⟨Nat.zero_le _, Nat.zero_le _⟩ (fun H locs V => W.eq (g2 := F0 m 44 ls [.int r8, .int (I a6 j7)]) rfl ?_)
      refine lv_icmp_eq (pc := 44) (tgt := 49) hx hb dX6_is_44 (by decide) (fun c10 => ?_) (fun c10 => ?_)
      · replace hf := if_t hf c10
        replace hf := nm_s hf; obtain ⟨u11, hu11, hf⟩ := hf
        refine lv_iinc (pc := 49) (v := u11) (lv' := [(2, .int u11), (0, .ref x0), (1, .ref x1)]) hx hb dX6_is_49 hl (k := 2) rfl (by rw [hu11]; rfl) (by decide) rfl (fun ls hl => ?_)
        refine lv_goto (pc := 52) (tgt := 20) hx hb dX6_is_52 (by decide) ?_
        exact ih hf V (lv_sub hl [1, 2, 0] rfl)
      · replace hf := if_f hf c10
        refine lv_iconst (pc := 47) (v := (ii 0)) hx hb dX6_is_47 (by decide) ?_
        cases hf
        exact x_zret (pc := 48) X V hr (by decide) dX6_is_48
set_option maxHeartbeats 400000 in
set_option maxRecDepth 100000 in
theorem wX6_is_rX20_e {nf : Nat} {p : Program} {l : Launch} {e : Env} {s : State} {m : MethodId} {args : Array Value} {below : List Frame} {meth : Method} {c : Code} {D : va_G} {dA : Nat → ClassId} {s0 : Nat} {T : xT} {N : xT} {Z : Nat} {I : xI} {L : xL} {R : xR} {H : Heap} {locs : List Loc} {ls : Array Slot} {x0 : Nat} {x1 : Nat} {ro : Int32} (X : Cx D dA s0 p m c cX6_is 3 s args RX6 meth) (hr : meth.sig.returnType = (some .boolean)) (hf : fX6_is_rX20 nf (sv dA) T N I R x0 x1 = some ro) (V : Iv D dA s0 s T N Z I L R H locs) (hl : lv_has ls 3 [(0, .ref x0), (1, .ref x1)]) : W p l e { frames := 5, cells := 0, slots := 0, locals := 106 } s m args below meth c H locs 0 0 (MQ below (xQ D dA s0 (some (.int ro)) T N Z I L R) args s 0 0 (fun q => s0 ≤ q)) (F0 m 0 ls []) := by
  have hx := X.1.1
  have hb := X.1.2.1
  unfold fX6_is_rX20 at hf
  refine lv_aload_n (pc := 0) hx hb dX6_is_0 rfl (lv_at hl 0 rfl) ?_
  replace hf := tg_s hf; obtain ⟨ht1, hf⟩ := hf
  refine x_get (pc := 1) X V okX20 ht1 4 (by decide) q745 (v := .int (I x0 4)) rfl dX6_is_1 ?_
  refine lv_aload_n (pc := 4) hx hb dX6_is_4 rfl (lv_at hl 0 rfl) ?_
  refine x_get (pc := 5) X V okX20 ht1 3 (by decide) q744 (v := .int (I x0 3)) rfl dX6_is_5 ?_
  refine lv_isub (pc := 8) hx hb dX6_is_8 ?_
  refine lv_aload_n (pc := 9) hx hb dX6_is_9 rfl (lv_at hl 1 rfl) ?_
  replace hf := tg_s hf; obtain ⟨ht4, hf⟩ := hf
  replace hf := bs hf; obtain ⟨r2, hk_3, hf⟩ := hf
  refine x_callVS0 (pc := 10) (As := []) (rest := [.int ((I x0 4) - (I x0 3))]) X V (mJ8_length l D dA s0 hk_3) ht4 q801 q802 q803 q135 q804 ⟨rfl, hsJ8_length⟩ ⟨Nat.le_of_ble_eq_true rfl, Nat.le_of_ble_eq_true rfl⟩ rfl hl.1 rfl (Nat.le_of_ble_eq_true rfl) dX6_is_10 ⟨Nat.zero_le _, Nat.zero_le _⟩ (fun H locs V => W.eq (g2 := F0 m 13 ls [.int r2, .int ((I x0 4) - (I x0 3))]) rfl ?_)
  refine lv_icmp_eq (pc := 13) (tgt := 18) hx hb dX6_is_13 (by decide) (fun c5 => ?_) (fun c5 => ?_)
  · replace hf := if_t hf c5
    refine lv_iconst (pc := 18) (v := (ii 0)) hx hb dX6_is_18 (by decide) ?_
    refine lv_istore_n (pc := 19) (lv' := [(2, .int (ii 0)), (0, .ref x0), (1, .ref x1)]) hx hb dX6_is_19 rfl hl (by decide) rfl (fun ls hl => ?_)
    exact wX6_is_rX20_b20 X hr nf hf V (lv_sub hl [1, 2, 0] rfl)
  · replace hf := if_f hf c5
    refine lv_iconst (pc := 16) (v := (ii 0)) hx hb dX6_is_16 (by decide) ?_
    cases hf
    exact x_zret (pc := 17) X V hr (by decide) dX6_is_17
theorem mX6_is_rX20 {nf : Nat} (l : Launch) (D : va_G) (dA : Nat → ClassId) (s0 : Nat) {T : xT} {N : xT} {Z : Nat} {I : xI} {L : xL} {R : xR} {x0 : Nat} {x1 : Nat} {ro : Int32} (hf : fX6_is_rX20 nf (sv dA) T N I R x0 x1 = some ro) : XMet l D dA s0 yX6_is (ws_ yX6_is cX6_is 3 ((some .boolean))) (5) (106) [.ref x0, .ref x1] T N Z I L R (some (.int ro)) T N Z I L R 0 0 :=
  x_start (own := RX6) rfl (by decide) (Nat.le_of_ble_eq_true rfl) (lv := [(0, .ref x0), (1, .ref x1)]) rfl (fun p e s m below meth c ls X hr hini V hl => wX6_is_rX20_e X hr hf V hl)
set_option maxHeartbeats 400000 in
set_option maxRecDepth 100000 in
theorem zX6_leaf_rX20_b12 {dA : Nat → ClassId} {T : xT} {N : xT} {Z : Nat} {S : Nat} {I : xI} {R : xR}  {x0 : Nat} {z0 : Nat} {ro : (Nat ⊕ Unit)} {To : xT} {No : xT} {Zo : Nat} {So : Nat} {Io : xI} {Ro : xR}  (hf : fX6_leaf_rX20_b12 (sv dA) T N Z S I R x0 z0 = some (ro, To, No, Zo, So, Io, Ro)) : Z ≤ Zo ∧ S ≤ So := by
  unfold fX6_leaf_rX20_b12 at hf
  replace hf := tg_s hf; obtain ⟨ht1, hf⟩ := hf
  replace hf := b2s hf; obtain ⟨I2, R3, hk_4, hf⟩ := hf
  replace hf := tg_s hf; obtain ⟨ht5, hf⟩ := hf
  cases hf
  exact ⟨Nat.le_refl _, Nat.le_refl _⟩
set_option maxHeartbeats 400000 in
set_option maxRecDepth 100000 in
theorem wX6_leaf_rX20_b12 {kc ks : Nat} {cells slots : Nat} {p : Program} {l : Launch} {e : Env} {s : State} {m : MethodId} {args : Array Value} {below : List Frame} {meth : Method} {c : Code} {D : va_G} {dA : Nat → ClassId} {s0 : Nat} {T : xT} {N : xT} {Z : Nat} {S : Nat} {I : xI} {L : xL} {R : xR} {H : Heap} {locs : List Loc} {ls : Array Slot}  {x0 : Nat} {z0 : Nat} {ro : (Nat ⊕ Unit)} {To : xT} {No : xT} {Zo : Nat} {So : Nat} {Io : xI} {Ro : xR} (X : Cx D dA s0 p m c cX6_leaf 1 s args RX6 meth) (hr : meth.sig.returnType = none) (htE : c.exceptionTable.toList = [])   (hf : fX6_leaf_rX20_b12 (sv dA) T N Z S I R x0 z0 = some (ro, To, No, Zo, So, Io, Ro)) (V : Iv D dA s0 s T N Z I L R H locs) (hl : lv_has ls 1 [(0, .ref x0)]) (hB : cells + (Zo - Z) ≤ kc ∧ slots + (So - S) ≤ ks) : W p l e { frames := 4, cells := kc, slots := ks, locals := 89 } s m args below meth c H locs cells slots (vx_MQ below (yQ D dA s0 (rV ro) To No Zo Io L Ro) (yX D dA s0 (rV ro) To No Zo Io L Ro) args s kc ks (fun q => s0 ≤ q)) (F0 m 12 ls [.ref z0]) := by
  have hx := X.1.1
  have hb := X.1.2.1
  unfold fX6_leaf_rX20_b12 at hf
  refine lv_dup (pc := 12) hx hb dX6_leaf_12 rfl ?_
  refine lv_aload_n (pc := 13) hx hb dX6_leaf_13 rfl (lv_at hl 0 rfl) ?_
  replace hf := tg_s hf; obtain ⟨ht1, hf⟩ := hf
  refine x_get (pc := 14) X V okX20 ht1 3 (by decide) q744 (v := .int (I x0 3)) rfl dX6_leaf_14 ?_
  replace hf := b2s hf; obtain ⟨I2, R3, hk_4, hf⟩ := hf
  refine x_callI0 (pc := 17) (As := [.int (I x0 3)]) (rest := [.ref z0]) X V (mX8_init l D dA s0 hk_4) q864 q865 q138 q866 rfl hsX8_init ⟨Nat.le_of_ble_eq_true rfl, Nat.le_of_ble_eq_true rfl⟩ rfl hl.1 rfl (Nat.le_of_ble_eq_true rfl) dX6_leaf_17 ⟨by show cells ≤ kc; omega, by show slots ≤ ks; omega⟩ (fun H locs V => W.eq (g2 := F0 m 20 ls [.ref z0]) rfl ?_)
  replace hf := tg_s hf; obtain ⟨ht5, hf⟩ := hf
  refine vx_athrow (pc := 20) hx hb dX6_leaf_20 ?_
  cases hf
  exact y_out X V htE okX8 ht5 (by omega) (by omega)
set_option maxHeartbeats 400000 in
set_option maxRecDepth 100000 in
theorem zX6_leaf_rX20 {dA : Nat → ClassId} {T : xT} {N : xT} {Z : Nat} {S : Nat} {I : xI} {R : xR} {x0 : Nat} {ro : (Nat ⊕ Unit)} {To : xT} {No : xT} {Zo : Nat} {So : Nat} {Io : xI} {Ro : xR} (hf : fX6_leaf_rX20 (sv dA) T N Z S I R x0 = some (ro, To, No, Zo, So, Io, Ro)) : Z ≤ Zo ∧ S ≤ So := by
  unfold fX6_leaf_rX20 at hf
  replace hf := tg_s hf; obtain ⟨ht1, hf⟩ := hf
  rcases (Decidable.em ((I x0 5) = (ii 50))).symm with c2 | c2
  · replace hf := if_f hf c2
    replace hf := nm_s hf; obtain ⟨I3, hI3, hf⟩ := hf
    cases hf
    exact ⟨Nat.le_refl _, Nat.le_refl _⟩
  · replace hf := if_t hf c2
    replace hf := nm_s hf; obtain ⟨T4, hT4, hf⟩ := hf
    replace hf := nm_s hf; obtain ⟨Z5, hZ5, hf⟩ := hf
    replace hf := nm_s hf; obtain ⟨S6, hS6, hf⟩ := hf
    have hm := zX6_leaf_rX20_b12 hf
    exact ⟨by omega, by omega⟩
set_option maxHeartbeats 400000 in
set_option maxRecDepth 100000 in
theorem wX6_leaf_rX20_e {kc ks : Nat} {cells slots : Nat} {p : Program} {l : Launch} {e : Env} {s : State} {m : MethodId} {args : Array Value} {below : List Frame} {meth : Method} {c : Code} {D : va_G} {dA : Nat → ClassId} {s0 : Nat} {T : xT} {N : xT} {Z : Nat} {S : Nat} {I : xI} {L : xL} {R : xR} {H : Heap} {locs : List Loc} {ls : Array Slot} {x0 : Nat} {ro : (Nat ⊕ Unit)} {To : xT} {No : xT} {Zo : Nat} {So : Nat} {Io : xI} {Ro : xR} (X : Cx D dA s0 p m c cX6_leaf 1 s args RX6 meth) (hr : meth.sig.returnType = none) (htE : c.exceptionTable.toList = []) (hf : fX6_leaf_rX20 (sv dA) T N Z S I R x0 = some (ro, To, No, Zo, So, Io, Ro)) (V : Iv D dA s0 s T N Z I L R H locs) (hl : lv_has ls 1 [(0, .ref x0)]) (hB : cells + (Zo - Z) ≤ kc ∧ slots + (So - S) ≤ ks) : W p l e { frames := 4, cells := kc, slots := ks, locals := 89 } s m args below meth c H locs cells slots (vx_MQ below (yQ D dA s0 (rV ro) To No Zo Io L Ro) (yX D dA s0 (rV ro) To No Zo Io L Ro) args s kc ks (fun q => s0 ≤ q)) (F0 m 0 ls []) := by
  have hx := X.1.1
  have hb := X.1.2.1
  unfold fX6_leaf_rX20 at hf
  refine lv_aload_n (pc := 0) hx hb dX6_leaf_0 rfl (lv_at hl 0 rfl) ?_
  replace hf := tg_s hf; obtain ⟨ht1, hf⟩ := hf
  refine x_get (pc := 1) X V okX20 ht1 5 (by decide) q746 (v := .int (I x0 5)) rfl dX6_leaf_1 ?_
  refine lv_bipush (pc := 4) (v := (ii 50)) hx hb dX6_leaf_4 (by decide) ?_
  refine lv_icmp_ne (pc := 6) (tgt := 21) hx hb dX6_leaf_6 (by decide) (fun c2 => ?_) (fun c2 => ?_)
  · replace hf := if_f hf c2
    refine lv_aload_n (pc := 21) hx hb dX6_leaf_21 rfl (lv_at hl 0 rfl) ?_
    refine lv_dup (pc := 22) hx hb dX6_leaf_22 rfl ?_
    refine x_get (pc := 23) X V okX20 ht1 5 (by decide) q746 (v := .int (I x0 5)) rfl dX6_leaf_23 ?_
    refine lv_iconst (pc := 26) (v := (ii 1)) hx hb dX6_leaf_26 (by decide) ?_
    refine lv_iadd (pc := 27) hx hb dX6_leaf_27 ?_
    replace hf := nm_s hf; obtain ⟨I3, hI3, hf⟩ := hf
    refine x_puti (pc := 28) X V okX20 (by decide) ht1 5 (by decide) q746 (Or.inl rfl) hI3 (fun _ _ _ => rfl) rfl rfl dX6_leaf_28 (fun H locs V => ?_)
    cases hf
    exact y_vret (pc := 31) X V hr (by omega) (by omega) dX6_leaf_31
  · replace hf := if_t hf c2
    replace hf := nm_s hf; obtain ⟨T4, hT4, hf⟩ := hf
    replace hf := nm_s hf; obtain ⟨Z5, hZ5, hf⟩ := hf
    replace hf := nm_s hf; obtain ⟨S6, hS6, hf⟩ := hf
    have hm := zX6_leaf_rX20_b12 hf
    refine x_new (pc := 9) X V okX8 hT4 hZ5 q855 q856 q138 (by show _ ≤ kc; omega) (by show _ ≤ ks; omega) dX6_leaf_9 (fun H V => ?_)
    exact wX6_leaf_rX20_b12 X hr htE hf V (lv_sub hl [0] rfl) ⟨by omega, by omega⟩
theorem mX6_leaf_rX20 (l : Launch) (D : va_G) (dA : Nat → ClassId) (s0 : Nat) {kc ks : Nat} {T : xT} {N : xT} {Z : Nat} {S : Nat} {I : xI} {L : xL} {R : xR} {x0 : Nat} {ro : (Nat ⊕ Unit)} {To : xT} {No : xT} {Zo : Nat} {So : Nat} {Io : xI} {Ro : xR} (hZ : Zo - Z ≤ kc) (hS : So - S ≤ ks) (hf : fX6_leaf_rX20 (sv dA) T N Z S I R x0 = some (ro, To, No, Zo, So, Io, Ro)) : YMet l D dA s0 yX6_leaf (ws_ yX6_leaf cX6_leaf 1 (none)) (4) (89) [.ref x0] T N Z I L R (rV ro) To No Zo Io L Ro kc ks :=
  y_start (own := RX6) rfl (by decide) (Nat.le_of_ble_eq_true rfl) (lv := [(0, .ref x0)]) rfl (fun p e s m below meth c ls X hr htE V hl => wX6_leaf_rX20_e X hr htE hf V hl ⟨by omega, by omega⟩)
set_option maxHeartbeats 400000 in
set_option maxRecDepth 100000 in
theorem wX6_isIn_rX20_e {p : Program} {l : Launch} {e : Env} {s : State} {m : MethodId} {args : Array Value} {below : List Frame} {meth : Method} {c : Code} {D : va_G} {dA : Nat → ClassId} {s0 : Nat} {T : xT} {N : xT} {Z : Nat} {I : xI} {L : xL} {R : xR} {H : Heap} {locs : List Loc} {ls : Array Slot} {x0 : Nat} {x1 : Int32} {x2 : Int32} {x3 : Int32} {ro : Int32} (X : Cx D dA s0 p m c cX6_isIn 4 s args RX6 meth) (hr : meth.sig.returnType = (some .boolean)) (hf : fX6_isIn_rX20 T N I R x0 x1 x2 x3 = some ro) (V : Iv D dA s0 s T N Z I L R H locs) (hl : lv_has ls 4 [(0, .ref x0), (1, .int x1), (2, .int x2), (3, .int x3)]) : W p l e { frames := 0, cells := 0, slots := 0, locals := 0 } s m args below meth c H locs 0 0 (MQ below (xQ D dA s0 (some (.int ro)) T N Z I L R) args s 0 0 (fun q => s0 ≤ q)) (F0 m 0 ls []) := by
  have hx := X.1.1
  have hb := X.1.2.1
  unfold fX6_isIn_rX20 at hf
  refine lv_iload_n (pc := 0) hx hb dX6_isIn_0 rfl (lv_at hl 1 rfl) ?_
  refine lv_aload_n (pc := 1) hx hb dX6_isIn_1 rfl (lv_at hl 0 rfl) ?_
  replace hf := tg_s hf; obtain ⟨ht1, hf⟩ := hf
  refine x_get (pc := 2) X V okX20 ht1 1 (by decide) q742 (v := .int (I x0 1)) rfl dX6_isIn_2 ?_
  refine lv_icmp_ge (pc := 5) (tgt := 32) hx hb dX6_isIn_5 (by decide) (fun c2 => ?_) (fun c2 => ?_)
  · replace hf := if_t hf c2
    refine lv_iconst (pc := 32) (v := (ii 0)) hx hb dX6_isIn_32 (by decide) ?_
    cases hf
    exact x_zret (pc := 33) X V hr (by decide) dX6_isIn_33
  · replace hf := if_f hf c2
    refine lv_aload_n (pc := 8) hx hb dX6_isIn_8 rfl (lv_at hl 0 rfl) ?_
    replace hf := bs hf; obtain ⟨a3, ha3, hf⟩ := hf
    refine x_get (pc := 9) X V okX20 ht1 0 (by decide) q741 (v := va_rf (R x0 0)) rfl dX6_isIn_9 ?_
    refine x_topr ha3 ?_
    refine lv_iload_n (pc := 12) hx hb dX6_isIn_12 rfl (lv_at hl 1 rfl) ?_
    replace hf := rA_s hf; obtain ⟨j4, hjj4, htj4, hij4, hf⟩ := hf
    refine x_bald (pc := 13) X V htj4 hij4 hjj4 dX6_isIn_13 ?_
    refine lv_iload_n (pc := 14) hx hb dX6_isIn_14 rfl (lv_at hl 2 rfl) ?_
    refine lv_icmp_lt (pc := 15) (tgt := 32) hx hb dX6_isIn_15 (by decide) (fun c5 => ?_) (fun c5 => ?_)
    · replace hf := if_t hf c5
      refine lv_iconst (pc := 32) (v := (ii 0)) hx hb dX6_isIn_32 (by decide) ?_
      cases hf
      exact x_zret (pc := 33) X V hr (by decide) dX6_isIn_33
    · replace hf := if_f hf c5
      refine lv_aload_n (pc := 18) hx hb dX6_isIn_18 rfl (lv_at hl 0 rfl) ?_
      refine x_get (pc := 19) X V okX20 ht1 0 (by decide) q741 (v := va_rf (R x0 0)) rfl dX6_isIn_19 ?_
      refine x_topr ha3 ?_
      refine lv_iload_n (pc := 22) hx hb dX6_isIn_22 rfl (lv_at hl 1 rfl) ?_
      refine x_bald (pc := 23) X V htj4 hij4 hjj4 dX6_isIn_23 ?_
      refine lv_iload_n (pc := 24) hx hb dX6_isIn_24 rfl (lv_at hl 3 rfl) ?_
      refine lv_icmp_gt (pc := 25) (tgt := 32) hx hb dX6_isIn_25 (by decide) (fun c6 => ?_) (fun c6 => ?_)
      · replace hf := if_t hf c6
        refine lv_iconst (pc := 32) (v := (ii 0)) hx hb dX6_isIn_32 (by decide) ?_
        cases hf
        exact x_zret (pc := 33) X V hr (by decide) dX6_isIn_33
      · replace hf := if_f hf c6
        refine lv_iconst (pc := 28) (v := (ii 1)) hx hb dX6_isIn_28 (by decide) ?_
        refine lv_goto (pc := 29) (tgt := 33) hx hb dX6_isIn_29 (by decide) ?_
        cases hf
        exact x_zret (pc := 33) X V hr (by decide) dX6_isIn_33
theorem mX6_isIn_rX20 (l : Launch) (D : va_G) (dA : Nat → ClassId) (s0 : Nat) {T : xT} {N : xT} {Z : Nat} {I : xI} {L : xL} {R : xR} {x0 : Nat} {x1 : Int32} {x2 : Int32} {x3 : Int32} {ro : Int32} (hf : fX6_isIn_rX20 T N I R x0 x1 x2 x3 = some ro) : XMet l D dA s0 yX6_isIn (ws_ yX6_isIn cX6_isIn 4 ((some .boolean))) (0) (0) [.ref x0, .int x1, .int x2, .int x3] T N Z I L R (some (.int ro)) T N Z I L R 0 0 :=
  x_start (own := RX6) rfl (by decide) (Nat.le_of_ble_eq_true rfl) (lv := [(0, .ref x0), (1, .int x1), (2, .int x2), (3, .int x3)]) rfl (fun p e s m below meth c ls X hr hini V hl => wX6_isIn_rX20_e X hr hf V hl)
set_option maxHeartbeats 400000 in
set_option maxRecDepth 100000 in
theorem wX6_next_rX20_b102 {nf : Nat} {p : Program} {l : Launch} {e : Env} {s : State} {m : MethodId} {args : Array Value} {below : List Frame} {meth : Method} {c : Code} {D : va_G} {dA : Nat → ClassId} {s0 : Nat} {T : xT} {N : xT} {Z : Nat} {L : xL} {R : xR}  {Io : xI} (X : Cx D dA s0 p m c cX6_next 1 s args RX6 meth) (hr : meth.sig.returnType = none)   (k : Nat) : ∀ {I : xI} {x0 : Nat} {H : Heap} {locs : List Loc} {ls : Array Slot} , fX6_next_rX20_b102 nf T N R k I x0 = some Io → Iv D dA s0 s T N Z I L R H locs → lv_has ls 1 [(0, .ref x0)] → W p l e { frames := 1, cells := 0, slots := 0, locals := 23 } s m args below meth c H locs 0 0 (MQ below (xQ D dA s0 none T N Z Io L R) args s 0 0 (fun q => s0 ≤ q)) (F0 m 102 ls []) := by
  have hx := X.1.1
  have hb := X.1.2.1
  induction k with
  | zero =>
    intro I x0 H locs ls hf V hl
    exact absurd (show none = some _ from hf) (fun q => nomatch q)
  | succ k ih =>
    intro I x0 H locs ls hf V hl
    rw [fX6_next_rX20_b102] at hf
    refine lv_aload_n (pc := 102) hx hb dX6_next_102 rfl (lv_at hl 0 rfl) ?_
    refine lv_aload_n (pc := 103) hx hb dX6_next_103 rfl (lv_at hl 0 rfl) ?_
    replace hf := tg_s hf; obtain ⟨ht1, hf⟩ := hf
    refine x_get (pc := 104) X V okX20 ht1 4 (by decide) q745 (v := .int (I x0 4)) rfl dX6_next_104 ?_
    refine lv_bipush (pc := 107) (v := (ii 48)) hx hb dX6_next_107 (by decide) ?_
    refine lv_bipush (pc := 109) (v := (ii 57)) hx hb dX6_next_109 (by decide) ?_
    replace hf := bs hf; obtain ⟨r2, hk_3, hf⟩ := hf
    refine x_callU (pc := 111) (As := [.int (I x0 4), .int (ii 48), .int (ii 57)]) (rest := []) X V (mX6_isIn_rX20 l D dA s0 hk_3) okX20 ht1 q782 q784 q786 q783 q133 q787 rfl hsX6_isIn_rX20 ⟨Nat.le_of_ble_eq_true rfl, Nat.le_of_ble_eq_true rfl⟩ rfl hl.1 rfl (Nat.le_of_ble_eq_true rfl) dX6_next_111 ⟨Nat.zero_le _, Nat.zero_le _⟩ (fun H locs V => W.eq (g2 := F0 m 114 ls [.int r2]) rfl ?_)
    refine lv_if_eq (pc := 114) (tgt := 151) hx hb dX6_next_114 (by decide) (fun c4 => ?_) (fun c4 => ?_)
    · replace hf := if_t hf c4
      cases hf
      exact x_vret (pc := 151) X V hr dX6_next_151
    · replace hf := if_f hf c4
      refine lv_aload_n (pc := 117) hx hb dX6_next_117 rfl (lv_at hl 0 rfl) ?_
      refine lv_dup (pc := 118) hx hb dX6_next_118 rfl ?_
      refine x_get (pc := 119) X V okX20 ht1 4 (by decide) q745 (v := .int (I x0 4)) rfl dX6_next_119 ?_
      refine lv_iconst (pc := 122) (v := (ii 1)) hx hb dX6_next_122 (by decide) ?_
      refine lv_iadd (pc := 123) hx hb dX6_next_123 ?_
      replace hf := nm_s hf; obtain ⟨I5, hI5, hf⟩ := hf
      refine x_puti (pc := 124) X V okX20 (by decide) ht1 4 (by decide) q745 (Or.inl rfl) hI5 (fun _ _ _ => rfl) rfl rfl dX6_next_124 (fun H locs V => ?_)
      refine lv_goto (pc := 127) (tgt := 102) hx hb dX6_next_127 (by decide) ?_
      exact ih hf V (lv_sub hl [0] rfl)
set_option maxHeartbeats 400000 in
set_option maxRecDepth 100000 in
theorem wX6_next_rX20_b59 {nf : Nat} {p : Program} {l : Launch} {e : Env} {s : State} {m : MethodId} {args : Array Value} {below : List Frame} {meth : Method} {c : Code} {D : va_G} {dA : Nat → ClassId} {s0 : Nat} {T : xT} {N : xT} {Z : Nat} {L : xL} {R : xR}  {Io : xI} (X : Cx D dA s0 p m c cX6_next 1 s args RX6 meth) (hr : meth.sig.returnType = none)   (k : Nat) : ∀ {I : xI} {x0 : Nat} {H : Heap} {locs : List Loc} {ls : Array Slot} , fX6_next_rX20_b59 nf T N R k I x0 = some Io → Iv D dA s0 s T N Z I L R H locs → lv_has ls 1 [(0, .ref x0)] → W p l e { frames := 1, cells := 0, slots := 0, locals := 23 } s m args below meth c H locs 0 0 (MQ below (xQ D dA s0 none T N Z Io L R) args s 0 0 (fun q => s0 ≤ q)) (F0 m 59 ls []) := by
  have hx := X.1.1
  have hb := X.1.2.1
  induction k with
  | zero =>
    intro I x0 H locs ls hf V hl
    exact absurd (show none = some _ from hf) (fun q => nomatch q)
  | succ k ih =>
    intro I x0 H locs ls hf V hl
    rw [fX6_next_rX20_b59] at hf
    refine lv_aload_n (pc := 59) hx hb dX6_next_59 rfl (lv_at hl 0 rfl) ?_
    refine lv_aload_n (pc := 60) hx hb dX6_next_60 rfl (lv_at hl 0 rfl) ?_
    replace hf := tg_s hf; obtain ⟨ht1, hf⟩ := hf
    refine x_get (pc := 61) X V okX20 ht1 4 (by decide) q745 (v := .int (I x0 4)) rfl dX6_next_61 ?_
    refine lv_bipush (pc := 64) (v := (ii 97)) hx hb dX6_next_64 (by decide) ?_
    refine lv_bipush (pc := 66) (v := (ii 122)) hx hb dX6_next_66 (by decide) ?_
    replace hf := bs hf; obtain ⟨r2, hk_3, hf⟩ := hf
    refine x_callU (pc := 68) (As := [.int (I x0 4), .int (ii 97), .int (ii 122)]) (rest := []) X V (mX6_isIn_rX20 l D dA s0 hk_3) okX20 ht1 q782 q784 q786 q783 q133 q787 rfl hsX6_isIn_rX20 ⟨Nat.le_of_ble_eq_true rfl, Nat.le_of_ble_eq_true rfl⟩ rfl hl.1 rfl (Nat.le_of_ble_eq_true rfl) dX6_next_68 ⟨Nat.zero_le _, Nat.zero_le _⟩ (fun H locs V => W.eq (g2 := F0 m 71 ls [.int r2]) rfl ?_)
    refine lv_if_eq (pc := 71) (tgt := 151) hx hb dX6_next_71 (by decide) (fun c4 => ?_) (fun c4 => ?_)
    · replace hf := if_t hf c4
      cases hf
      exact x_vret (pc := 151) X V hr dX6_next_151
    · replace hf := if_f hf c4
      refine lv_aload_n (pc := 74) hx hb dX6_next_74 rfl (lv_at hl 0 rfl) ?_
      refine lv_dup (pc := 75) hx hb dX6_next_75 rfl ?_
      refine x_get (pc := 76) X V okX20 ht1 4 (by decide) q745 (v := .int (I x0 4)) rfl dX6_next_76 ?_
      refine lv_iconst (pc := 79) (v := (ii 1)) hx hb dX6_next_79 (by decide) ?_
      refine lv_iadd (pc := 80) hx hb dX6_next_80 ?_
      replace hf := nm_s hf; obtain ⟨I5, hI5, hf⟩ := hf
      refine x_puti (pc := 81) X V okX20 (by decide) ht1 4 (by decide) q745 (Or.inl rfl) hI5 (fun _ _ _ => rfl) rfl rfl dX6_next_81 (fun H locs V => ?_)
      refine lv_goto (pc := 84) (tgt := 59) hx hb dX6_next_84 (by decide) ?_
      exact ih hf V (lv_sub hl [0] rfl)
set_option maxHeartbeats 400000 in
set_option maxRecDepth 100000 in
theorem wX6_next_rX20_b8 {nf : Nat} {p : Program} {l : Launch} {e : Env} {s : State} {m : MethodId} {args : Array Value} {below : List Frame} {meth : Method} {c : Code} {D : va_G} {dA : Nat → ClassId} {s0 : Nat} {T : xT} {N : xT} {Z : Nat} {L : xL} {R : xR}  {Io : xI} (X : Cx D dA s0 p m c cX6_next 1 s args RX6 meth) (hr : meth.sig.returnType = none)   (k : Nat) : ∀ {I : xI} {x0 : Nat} {H : Heap} {locs : List Loc} {ls : Array Slot} , fX6_next_rX20_b8 nf T N R k I x0 = some Io → Iv D dA s0 s T N Z I L R H locs → lv_has ls 1 [(0, .ref x0)] → W p l e { frames := 1, cells := 0, slots := 0, locals := 23 } s m args below meth c H locs 0 0 (MQ below (xQ D dA s0 none T N Z Io L R) args s 0 0 (fun q => s0 ≤ q)) (F0 m 8 ls []) := by
  have hx := X.1.1
  have hb := X.1.2.1
  induction k with
  | zero =>
    intro I x0 H locs ls hf V hl
    exact absurd (show none = some _ from hf) (fun q => nomatch q)
  | succ k ih =>
    intro I x0 H locs ls hf V hl
    rw [fX6_next_rX20_b8] at hf
    refine lv_aload_n (pc := 8) hx hb dX6_next_8 rfl (lv_at hl 0 rfl) ?_
    refine lv_aload_n (pc := 9) hx hb dX6_next_9 rfl (lv_at hl 0 rfl) ?_
    replace hf := tg_s hf; obtain ⟨ht1, hf⟩ := hf
    refine x_get (pc := 10) X V okX20 ht1 3 (by decide) q744 (v := .int (I x0 3)) rfl dX6_next_10 ?_
    refine lv_bipush (pc := 13) (v := (ii 32)) hx hb dX6_next_13 (by decide) ?_
    refine lv_bipush (pc := 15) (v := (ii 32)) hx hb dX6_next_15 (by decide) ?_
    replace hf := bs hf; obtain ⟨r2, hk_3, hf⟩ := hf
    refine x_callU (pc := 17) (As := [.int (I x0 3), .int (ii 32), .int (ii 32)]) (rest := []) X V (mX6_isIn_rX20 l D dA s0 hk_3) okX20 ht1 q782 q784 q786 q783 q133 q787 rfl hsX6_isIn_rX20 ⟨Nat.le_of_ble_eq_true rfl, Nat.le_of_ble_eq_true rfl⟩ rfl hl.1 rfl (Nat.le_of_ble_eq_true rfl) dX6_next_17 ⟨Nat.zero_le _, Nat.zero_le _⟩ (fun H locs V => W.eq (g2 := F0 m 20 ls [.int r2]) rfl ?_)
    refine lv_if_eq (pc := 20) (tgt := 36) hx hb dX6_next_20 (by decide) (fun c4 => ?_) (fun c4 => ?_)
    · replace hf := if_t hf c4
      refine lv_aload_n (pc := 36) hx hb dX6_next_36 rfl (lv_at hl 0 rfl) ?_
      refine lv_aload_n (pc := 37) hx hb dX6_next_37 rfl (lv_at hl 0 rfl) ?_
      refine x_get (pc := 38) X V okX20 ht1 3 (by decide) q744 (v := .int (I x0 3)) rfl dX6_next_38 ?_
      replace hf := nm_s hf; obtain ⟨I5, hI5, hf⟩ := hf
      refine x_puti (pc := 41) X V okX20 (by decide) ht1 4 (by decide) q745 (Or.inl rfl) hI5 (fun _ _ _ => rfl) rfl rfl dX6_next_41 (fun H locs V => ?_)
      refine lv_aload_n (pc := 44) hx hb dX6_next_44 rfl (lv_at hl 0 rfl) ?_
      refine lv_aload_n (pc := 45) hx hb dX6_next_45 rfl (lv_at hl 0 rfl) ?_
      refine x_get (pc := 46) X V okX20 ht1 3 (by decide) q744 (v := .int (I5 x0 3)) rfl dX6_next_46 ?_
      refine lv_bipush (pc := 49) (v := (ii 97)) hx hb dX6_next_49 (by decide) ?_
      refine lv_bipush (pc := 51) (v := (ii 122)) hx hb dX6_next_51 (by decide) ?_
      replace hf := bs hf; obtain ⟨r6, hk_7, hf⟩ := hf
      refine x_callU (pc := 53) (As := [.int (I5 x0 3), .int (ii 97), .int (ii 122)]) (rest := []) X V (mX6_isIn_rX20 l D dA s0 hk_7) okX20 ht1 q782 q784 q786 q783 q133 q787 rfl hsX6_isIn_rX20 ⟨Nat.le_of_ble_eq_true rfl, Nat.le_of_ble_eq_true rfl⟩ rfl hl.1 rfl (Nat.le_of_ble_eq_true rfl) dX6_next_53 ⟨Nat.zero_le _, Nat.zero_le _⟩ (fun H locs V => W.eq (g2 := F0 m 56 ls [.int r6]) rfl ?_)
      refine lv_if_eq (pc := 56) (tgt := 87) hx hb dX6_next_56 (by decide) (fun c8 => ?_) (fun c8 => ?_)
      · replace hf := if_t hf c8
        refine lv_aload_n (pc := 87) hx hb dX6_next_87 rfl (lv_at hl 0 rfl) ?_
        refine lv_aload_n (pc := 88) hx hb dX6_next_88 rfl (lv_at hl 0 rfl) ?_
        refine x_get (pc := 89) X V okX20 ht1 3 (by decide) q744 (v := .int (I5 x0 3)) rfl dX6_next_89 ?_
        refine lv_bipush (pc := 92) (v := (ii 48)) hx hb dX6_next_92 (by decide) ?_
        refine lv_bipush (pc := 94) (v := (ii 57)) hx hb dX6_next_94 (by decide) ?_
        replace hf := bs hf; obtain ⟨r9, hk_10, hf⟩ := hf
        refine x_callU (pc := 96) (As := [.int (I5 x0 3), .int (ii 48), .int (ii 57)]) (rest := []) X V (mX6_isIn_rX20 l D dA s0 hk_10) okX20 ht1 q782 q784 q786 q783 q133 q787 rfl hsX6_isIn_rX20 ⟨Nat.le_of_ble_eq_true rfl, Nat.le_of_ble_eq_true rfl⟩ rfl hl.1 rfl (Nat.le_of_ble_eq_true rfl) dX6_next_96 ⟨Nat.zero_le _, Nat.zero_le _⟩ (fun H locs V => W.eq (g2 := F0 m 99 ls [.int r9]) rfl ?_)
        refine lv_if_eq (pc := 99) (tgt := 130) hx hb dX6_next_99 (by decide) (fun c11 => ?_) (fun c11 => ?_)
        · replace hf := if_t hf c11
          refine lv_aload_n (pc := 130) hx hb dX6_next_130 rfl (lv_at hl 0 rfl) ?_
          refine x_get (pc := 131) X V okX20 ht1 3 (by decide) q744 (v := .int (I5 x0 3)) rfl dX6_next_131 ?_
          refine lv_aload_n (pc := 134) hx hb dX6_next_134 rfl (lv_at hl 0 rfl) ?_
          refine x_get (pc := 135) X V okX20 ht1 1 (by decide) q742 (v := .int (I5 x0 1)) rfl dX6_next_135 ?_
          refine lv_icmp_ge (pc := 138) (tgt := 151) hx hb dX6_next_138 (by decide) (fun c12 => ?_) (fun c12 => ?_)
          · replace hf := if_t hf c12
            cases hf
            exact x_vret (pc := 151) X V hr dX6_next_151
          · replace hf := if_f hf c12
            refine lv_aload_n (pc := 141) hx hb dX6_next_141 rfl (lv_at hl 0 rfl) ?_
            refine lv_dup (pc := 142) hx hb dX6_next_142 rfl ?_
            refine x_get (pc := 143) X V okX20 ht1 4 (by decide) q745 (v := .int (I5 x0 4)) rfl dX6_next_143 ?_
            refine lv_iconst (pc := 146) (v := (ii 1)) hx hb dX6_next_146 (by decide) ?_
            refine lv_iadd (pc := 147) hx hb dX6_next_147 ?_
            replace hf := nm_s hf; obtain ⟨I13, hI13, hf⟩ := hf
            refine x_puti (pc := 148) X V okX20 (by decide) ht1 4 (by decide) q745 (Or.inl rfl) hI13 (fun _ _ _ => rfl) rfl rfl dX6_next_148 (fun H locs V => ?_)
            cases hf
            exact x_vret (pc := 151) X V hr dX6_next_151
        · replace hf := if_f hf c11
          exact wX6_next_rX20_b102 X hr nf hf V (lv_sub hl [0] rfl)
      · replace hf := if_f hf c8
        exact wX6_next_rX20_b59 X hr nf hf V (lv_sub hl [0] rfl)
    · replace hf := if_f hf c4
      refine lv_aload_n (pc := 23) hx hb dX6_next_23 rfl (lv_at hl 0 rfl) ?_
      refine lv_dup (pc := 24) hx hb dX6_next_24 rfl ?_
      refine x_get (pc := 25) X V okX20 ht1 3 (by decide) q744 (v := .int (I x0 3)) rfl dX6_next_25 ?_
      refine lv_iconst (pc := 28) (v := (ii 1)) hx hb dX6_next_28 (by decide) ?_
      refine lv_iadd (pc := 29) hx hb dX6_next_29 ?_
      replace hf := nm_s hf; obtain ⟨I14, hI14, hf⟩ := hf
      refine x_puti (pc := 30) X V okX20 (by decide) ht1 3 (by decide) q744 (Or.inl rfl) hI14 (fun _ _ _ => rfl) rfl rfl dX6_next_30 (fun H locs V => ?_)
      refine lv_goto (pc := 33) (tgt := 8) hx hb dX6_next_33 (by decide) ?_
      exact ih hf V (lv_sub hl [0] rfl)
set_option maxHeartbeats 400000 in
set_option maxRecDepth 100000 in
theorem wX6_next_rX20_e {nf : Nat} {p : Program} {l : Launch} {e : Env} {s : State} {m : MethodId} {args : Array Value} {below : List Frame} {meth : Method} {c : Code} {D : va_G} {dA : Nat → ClassId} {s0 : Nat} {T : xT} {N : xT} {Z : Nat} {I : xI} {L : xL} {R : xR} {H : Heap} {locs : List Loc} {ls : Array Slot} {x0 : Nat} {Io : xI} (X : Cx D dA s0 p m c cX6_next 1 s args RX6 meth) (hr : meth.sig.returnType = none) (hf : fX6_next_rX20 nf T N I R x0 = some Io) (V : Iv D dA s0 s T N Z I L R H locs) (hl : lv_has ls 1 [(0, .ref x0)]) : W p l e { frames := 1, cells := 0, slots := 0, locals := 23 } s m args below meth c H locs 0 0 (MQ below (xQ D dA s0 none T N Z Io L R) args s 0 0 (fun q => s0 ≤ q)) (F0 m 0 ls []) := by
  have hx := X.1.1
  have hb := X.1.2.1
  unfold fX6_next_rX20 at hf
  refine lv_aload_n (pc := 0) hx hb dX6_next_0 rfl (lv_at hl 0 rfl) ?_
  refine lv_aload_n (pc := 1) hx hb dX6_next_1 rfl (lv_at hl 0 rfl) ?_
  replace hf := tg_s hf; obtain ⟨ht1, hf⟩ := hf
  refine x_get (pc := 2) X V okX20 ht1 4 (by decide) q745 (v := .int (I x0 4)) rfl dX6_next_2 ?_
  replace hf := nm_s hf; obtain ⟨I2, hI2, hf⟩ := hf
  refine x_puti (pc := 5) X V okX20 (by decide) ht1 3 (by decide) q744 (Or.inl rfl) hI2 (fun _ _ _ => rfl) rfl rfl dX6_next_5 (fun H locs V => ?_)
  exact wX6_next_rX20_b8 X hr nf hf V (lv_sub hl [0] rfl)
theorem mX6_next_rX20 {nf : Nat} (l : Launch) (D : va_G) (dA : Nat → ClassId) (s0 : Nat) {T : xT} {N : xT} {Z : Nat} {I : xI} {L : xL} {R : xR} {x0 : Nat} {Io : xI} (hf : fX6_next_rX20 nf T N I R x0 = some Io) : XMet l D dA s0 yX6_next (ws_ yX6_next cX6_next 1 (none)) (1) (23) [.ref x0] T N Z I L R none T N Z Io L R 0 0 :=
  x_start (own := RX6) rfl (by decide) (Nat.le_of_ble_eq_true rfl) (lv := [(0, .ref x0)]) rfl (fun p e s m below meth c ls X hr hini V hl => wX6_next_rX20_e X hr hf V hl)
set_option maxHeartbeats 400000 in
set_option maxRecDepth 100000 in
theorem zX6_isValue_rX20_b14 {nf : Nat} {dA : Nat → ClassId} {T : xT} {N : xT} {Z : Nat} {S : Nat} {I : xI} {R : xR}  {x0 : Nat} {ro : (Nat ⊕ Int32)} {To : xT} {No : xT} {Zo : Nat} {So : Nat} {Io : xI} {Ro : xR}  (hf : fX6_isValue_rX20_b14 nf (sv dA) T N Z S I R x0 = some (ro, To, No, Zo, So, Io, Ro)) : Z ≤ Zo ∧ S ≤ So := by
  unfold fX6_isValue_rX20_b14 at hf
  replace hf := tg_s hf; obtain ⟨ht3, hf⟩ := hf
  replace hf := bs hf; obtain ⟨I1, hk_2, hf⟩ := hf
  cases hf
  exact ⟨Nat.le_refl _, Nat.le_refl _⟩
set_option maxHeartbeats 400000 in
set_option maxRecDepth 100000 in
theorem wX6_isValue_rX20_b14 {nf : Nat} {kc ks : Nat} {cells slots : Nat} {p : Program} {l : Launch} {e : Env} {s : State} {m : MethodId} {args : Array Value} {below : List Frame} {meth : Method} {c : Code} {D : va_G} {dA : Nat → ClassId} {s0 : Nat} {T : xT} {N : xT} {Z : Nat} {S : Nat} {I : xI} {L : xL} {R : xR} {H : Heap} {locs : List Loc} {ls : Array Slot}  {x0 : Nat} {ro : (Nat ⊕ Int32)} {To : xT} {No : xT} {Zo : Nat} {So : Nat} {Io : xI} {Ro : xR} (X : Cx D dA s0 p m c cX6_isValue 2 s args RX6 meth) (hr : meth.sig.returnType = (some .boolean)) (htE : c.exceptionTable.toList = [])   (hf : fX6_isValue_rX20_b14 nf (sv dA) T N Z S I R x0 = some (ro, To, No, Zo, So, Io, Ro)) (V : Iv D dA s0 s T N Z I L R H locs) (hl : lv_has ls 2 [(0, .ref x0)]) (hB : cells + (Zo - Z) ≤ kc ∧ slots + (So - S) ≤ ks) : W p l e { frames := 6, cells := kc, slots := ks, locals := 128 } s m args below meth c H locs cells slots (vx_MQ below (yQ D dA s0 (rI ro) To No Zo Io L Ro) (yX D dA s0 (rI ro) To No Zo Io L Ro) args s kc ks (fun q => s0 ≤ q)) (F0 m 14 ls []) := by
  have hx := X.1.1
  have hb := X.1.2.1
  unfold fX6_isValue_rX20_b14 at hf
  refine lv_aload_n (pc := 14) hx hb dX6_isValue_14 rfl (lv_at hl 0 rfl) ?_
  replace hf := tg_s hf; obtain ⟨ht3, hf⟩ := hf
  replace hf := bs hf; obtain ⟨I1, hk_2, hf⟩ := hf
  refine x_callU (pc := 15) (As := []) (rest := []) X V (mX6_next_rX20 l D dA s0 hk_2) okX20 ht3 q776 q778 q780 q777 q133 q781 rfl hsX6_next_rX20 ⟨Nat.le_of_ble_eq_true rfl, Nat.le_of_ble_eq_true rfl⟩ rfl hl.1 rfl (Nat.le_of_ble_eq_true rfl) dX6_isValue_15 ⟨by show cells ≤ kc; omega, by show slots ≤ ks; omega⟩ (fun H locs V => W.eq (g2 := F0 m 18 ls []) rfl ?_)
  refine lv_iconst (pc := 18) (v := (ii 1)) hx hb dX6_isValue_18 (by decide) ?_
  cases hf
  exact y_zret (pc := 19) X V hr (by omega) (by omega) (by decide) dX6_isValue_19
set_option maxHeartbeats 400000 in
set_option maxRecDepth 100000 in
theorem zX6_isValue_rX20 {nf : Nat} {dA : Nat → ClassId} {T : xT} {N : xT} {Z : Nat} {S : Nat} {I : xI} {R : xR} {x0 : Nat} {x1 : Nat} {ro : (Nat ⊕ Int32)} {To : xT} {No : xT} {Zo : Nat} {So : Nat} {Io : xI} {Ro : xR} (hf : fX6_isValue_rX20 nf (sv dA) T N Z S I R x0 x1 = some (ro, To, No, Zo, So, Io, Ro)) : Z ≤ Zo ∧ S ≤ So := by
  unfold fX6_isValue_rX20 at hf
  replace hf := tg_s hf; obtain ⟨ht3, hf⟩ := hf
  replace hf := bs hf; obtain ⟨r1, hk_2, hf⟩ := hf
  rcases (Decidable.em (r1 = (ii 0))).symm with c4 | c4
  · replace hf := if_f hf c4
    replace hf := b7s hf; obtain ⟨r5, T6, N7, Z8, S9, I10, R11, hk_12, hf⟩ := hf
    have hm_hk_12 := zX6_leaf_rX20 hk_12
    replace hf := xc_s hf; rcases hf with ⟨a13, hr_15, hf⟩ | ⟨v14, hr_15, hf⟩
    · skip
      replace hf := tg_s hf; obtain ⟨ht16, hf⟩ := hf
      cases hf
      exact ⟨by omega, by omega⟩
    · skip
      have hm := zX6_isValue_rX20_b14 hf
      exact ⟨by omega, by omega⟩
  · replace hf := if_t hf c4
    cases hf
    exact ⟨Nat.le_refl _, Nat.le_refl _⟩
set_option maxHeartbeats 400000 in
set_option maxRecDepth 100000 in
theorem wX6_isValue_rX20_e {nf : Nat} {kc ks : Nat} {cells slots : Nat} {p : Program} {l : Launch} {e : Env} {s : State} {m : MethodId} {args : Array Value} {below : List Frame} {meth : Method} {c : Code} {D : va_G} {dA : Nat → ClassId} {s0 : Nat} {T : xT} {N : xT} {Z : Nat} {S : Nat} {I : xI} {L : xL} {R : xR} {H : Heap} {locs : List Loc} {ls : Array Slot} {x0 : Nat} {x1 : Nat} {ro : (Nat ⊕ Int32)} {To : xT} {No : xT} {Zo : Nat} {So : Nat} {Io : xI} {Ro : xR} (X : Cx D dA s0 p m c cX6_isValue 2 s args RX6 meth) (hr : meth.sig.returnType = (some .boolean)) (htE : c.exceptionTable.toList = []) (hf : fX6_isValue_rX20 nf (sv dA) T N Z S I R x0 x1 = some (ro, To, No, Zo, So, Io, Ro)) (V : Iv D dA s0 s T N Z I L R H locs) (hl : lv_has ls 2 [(0, .ref x0), (1, .ref x1)]) (hB : cells + (Zo - Z) ≤ kc ∧ slots + (So - S) ≤ ks) : W p l e { frames := 6, cells := kc, slots := ks, locals := 128 } s m args below meth c H locs cells slots (vx_MQ below (yQ D dA s0 (rI ro) To No Zo Io L Ro) (yX D dA s0 (rI ro) To No Zo Io L Ro) args s kc ks (fun q => s0 ≤ q)) (F0 m 0 ls []) := by
  have hx := X.1.1
  have hb := X.1.2.1
  unfold fX6_isValue_rX20 at hf
  refine lv_aload_n (pc := 0) hx hb dX6_isValue_0 rfl (lv_at hl 0 rfl) ?_
  refine lv_aload_n (pc := 1) hx hb dX6_isValue_1 rfl (lv_at hl 1 rfl) ?_
  replace hf := tg_s hf; obtain ⟨ht3, hf⟩ := hf
  replace hf := bs hf; obtain ⟨r1, hk_2, hf⟩ := hf
  refine x_callU (pc := 2) (As := [.ref x1]) (rest := []) X V (mX6_is_rX20 l D dA s0 hk_2) okX20 ht3 q916 q2222 q2224 q799 q133 q800 rfl hsX6_is_rX20 ⟨Nat.le_of_ble_eq_true rfl, Nat.le_of_ble_eq_true rfl⟩ rfl hl.1 rfl (Nat.le_of_ble_eq_true rfl) dX6_isValue_2 ⟨by show cells ≤ kc; omega, by show slots ≤ ks; omega⟩ (fun H locs V => W.eq (g2 := F0 m 5 ls [.int r1]) rfl ?_)
  refine lv_if_ne (pc := 5) (tgt := 10) hx hb dX6_isValue_5 (by decide) (fun c4 => ?_) (fun c4 => ?_)
  · replace hf := if_f hf c4
    refine lv_aload_n (pc := 10) hx hb dX6_isValue_10 rfl (lv_at hl 0 rfl) ?_
    replace hf := b7s hf; obtain ⟨r5, T6, N7, Z8, S9, I10, R11, hk_12, hf⟩ := hf
    have hm_hk_12 := zX6_leaf_rX20 hk_12
    replace hf := xc_s hf; rcases hf with ⟨a13, hr_15, hf⟩ | ⟨v14, hr_15, hf⟩
    · rw [hr_15] at hk_12
      replace hf := tg_s hf; obtain ⟨ht16, hf⟩ := hf
      have hzE : Z8 = Zo := by cases hf; rfl
      have hsE : S9 = So := by cases hf; rfl
      refine y_afterX (y_runU (pc := 11) (As := []) (rest := []) X V (mX6_leaf_rX20 l D dA s0 (kc := Z8 - Z) (ks := S9 - S) (Nat.le_refl _) (Nat.le_refl _) hk_12) okX20 ht3 q937 q939 q941 q938 q133 q942 rfl hsX6_leaf_rX20 ⟨Nat.le_of_ble_eq_true rfl, Nat.le_of_ble_eq_true rfl⟩ rfl hl.1 rfl (Nat.le_of_ble_eq_true rfl) dX6_isValue_11 ⟨by show _ ≤ kc; omega, by show _ ≤ ks; omega⟩) V (fun H locs V => ?_)
      cases hf
      exact y_out X V htE okX8 ht16 (by omega) (by omega)
    · rw [hr_15] at hk_12
      have hm := zX6_isValue_rX20_b14 hf
      refine y_afterR (y_runU (pc := 11) (As := []) (rest := []) X V (mX6_leaf_rX20 l D dA s0 (kc := Z8 - Z) (ks := S9 - S) (Nat.le_refl _) (Nat.le_refl _) hk_12) okX20 ht3 q937 q939 q941 q938 q133 q942 rfl hsX6_leaf_rX20 ⟨Nat.le_of_ble_eq_true rfl, Nat.le_of_ble_eq_true rfl⟩ rfl hl.1 rfl (Nat.le_of_ble_eq_true rfl) dX6_isValue_11 ⟨by show _ ≤ kc; omega, by show _ ≤ ks; omega⟩) V (fun H locs V => W.eq (g2 := F0 m 14 ls []) rfl ?_)
      exact wX6_isValue_rX20_b14 X hr htE hf V (lv_sub hl [0] rfl) ⟨by omega, by omega⟩
  · replace hf := if_t hf c4
    refine lv_iconst (pc := 8) (v := (ii 0)) hx hb dX6_isValue_8 (by decide) ?_
    cases hf
    exact y_zret (pc := 9) X V hr (by omega) (by omega) (by decide) dX6_isValue_9
theorem mX6_isValue_rX20 {nf : Nat} (l : Launch) (D : va_G) (dA : Nat → ClassId) (s0 : Nat) {kc ks : Nat} {T : xT} {N : xT} {Z : Nat} {S : Nat} {I : xI} {L : xL} {R : xR} {x0 : Nat} {x1 : Nat} {ro : (Nat ⊕ Int32)} {To : xT} {No : xT} {Zo : Nat} {So : Nat} {Io : xI} {Ro : xR} (hZ : Zo - Z ≤ kc) (hS : So - S ≤ ks) (hf : fX6_isValue_rX20 nf (sv dA) T N Z S I R x0 x1 = some (ro, To, No, Zo, So, Io, Ro)) : YMet l D dA s0 yX6_isValue (ws_ yX6_isValue cX6_isValue 2 ((some .boolean))) (6) (128) [.ref x0, .ref x1] T N Z I L R (rI ro) To No Zo Io L Ro kc ks :=
  y_start (own := RX6) rfl (by decide) (Nat.le_of_ble_eq_true rfl) (lv := [(0, .ref x0), (1, .ref x1)]) rfl (fun p e s m below meth c ls X hr htE V hl => wX6_isValue_rX20_e X hr htE hf V hl ⟨by omega, by omega⟩)
set_option maxHeartbeats 400000 in
set_option maxRecDepth 100000 in
theorem zX6_number_rX20_b84 {nf : Nat} {dA : Nat → ClassId} {T : xT} {N : xT} {Z : Nat} {S : Nat} {I : xI} {R : xR}  {x0 : Nat} {z0 : Nat} {ro : (Nat ⊕ Int32)} {To : xT} {No : xT} {Zo : Nat} {So : Nat} {Io : xI} {Ro : xR}  (hf : fX6_number_rX20_b84 nf (sv dA) T N Z S I R x0 z0 = some (ro, To, No, Zo, So, Io, Ro)) : Z ≤ Zo ∧ S ≤ So := by
  unfold fX6_number_rX20_b84 at hf
  replace hf := tg_s hf; obtain ⟨ht1, hf⟩ := hf
  replace hf := b2s hf; obtain ⟨I2, R3, hk_4, hf⟩ := hf
  replace hf := tg_s hf; obtain ⟨ht5, hf⟩ := hf
  cases hf
  exact ⟨Nat.le_refl _, Nat.le_refl _⟩
set_option maxHeartbeats 400000 in
set_option maxRecDepth 100000 in
theorem wX6_number_rX20_b84 {nf : Nat} {kc ks : Nat} {cells slots : Nat} {p : Program} {l : Launch} {e : Env} {s : State} {m : MethodId} {args : Array Value} {below : List Frame} {meth : Method} {c : Code} {D : va_G} {dA : Nat → ClassId} {s0 : Nat} {T : xT} {N : xT} {Z : Nat} {S : Nat} {I : xI} {L : xL} {R : xR} {H : Heap} {locs : List Loc} {ls : Array Slot}  {x0 : Nat} {z0 : Nat} {ro : (Nat ⊕ Int32)} {To : xT} {No : xT} {Zo : Nat} {So : Nat} {Io : xI} {Ro : xR} (X : Cx D dA s0 p m c cX6_number 5 s args RX6 meth) (hr : meth.sig.returnType = (some .int)) (htE : c.exceptionTable.toList = [])   (hf : fX6_number_rX20_b84 nf (sv dA) T N Z S I R x0 z0 = some (ro, To, No, Zo, So, Io, Ro)) (V : Iv D dA s0 s T N Z I L R H locs) (hl : lv_has ls 5 [(0, .ref x0)]) (hB : cells + (Zo - Z) ≤ kc ∧ slots + (So - S) ≤ ks) : W p l e { frames := 4, cells := kc, slots := ks, locals := 89 } s m args below meth c H locs cells slots (vx_MQ below (yQ D dA s0 (rI ro) To No Zo Io L Ro) (yX D dA s0 (rI ro) To No Zo Io L Ro) args s kc ks (fun q => s0 ≤ q)) (F0 m 84 ls [.ref z0]) := by
  have hx := X.1.1
  have hb := X.1.2.1
  unfold fX6_number_rX20_b84 at hf
  refine lv_dup (pc := 84) hx hb dX6_number_84 rfl ?_
  refine lv_aload_n (pc := 85) hx hb dX6_number_85 rfl (lv_at hl 0 rfl) ?_
  replace hf := tg_s hf; obtain ⟨ht1, hf⟩ := hf
  refine x_get (pc := 86) X V okX20 ht1 3 (by decide) q744 (v := .int (I x0 3)) rfl dX6_number_86 ?_
  replace hf := b2s hf; obtain ⟨I2, R3, hk_4, hf⟩ := hf
  refine x_callI0 (pc := 89) (As := [.int (I x0 3)]) (rest := [.ref z0]) X V (mX8_init l D dA s0 hk_4) q864 q865 q138 q866 rfl hsX8_init ⟨Nat.le_of_ble_eq_true rfl, Nat.le_of_ble_eq_true rfl⟩ rfl hl.1 rfl (Nat.le_of_ble_eq_true rfl) dX6_number_89 ⟨by show cells ≤ kc; omega, by show slots ≤ ks; omega⟩ (fun H locs V => W.eq (g2 := F0 m 92 ls [.ref z0]) rfl ?_)
  replace hf := tg_s hf; obtain ⟨ht5, hf⟩ := hf
  refine vx_athrow (pc := 92) hx hb dX6_number_92 ?_
  cases hf
  exact y_out X V htE okX8 ht5 (by omega) (by omega)
set_option maxHeartbeats 400000 in
set_option maxRecDepth 100000 in
theorem zX6_number_rX20_b81 {nf : Nat} {dA : Nat → ClassId} {T : xT} {N : xT} {Z : Nat} {S : Nat} {I : xI} {R : xR}  {x0 : Nat} {ro : (Nat ⊕ Int32)} {To : xT} {No : xT} {Zo : Nat} {So : Nat} {Io : xI} {Ro : xR}  (hf : fX6_number_rX20_b81 nf (sv dA) T N Z S I R x0 = some (ro, To, No, Zo, So, Io, Ro)) : Z ≤ Zo ∧ S ≤ So := by
  unfold fX6_number_rX20_b81 at hf
  replace hf := nm_s hf; obtain ⟨T1, hT1, hf⟩ := hf
  replace hf := nm_s hf; obtain ⟨Z2, hZ2, hf⟩ := hf
  replace hf := nm_s hf; obtain ⟨S3, hS3, hf⟩ := hf
  have hm := zX6_number_rX20_b84 hf
  exact ⟨by omega, by omega⟩
set_option maxHeartbeats 400000 in
set_option maxRecDepth 100000 in
theorem wX6_number_rX20_b81 {nf : Nat} {kc ks : Nat} {cells slots : Nat} {p : Program} {l : Launch} {e : Env} {s : State} {m : MethodId} {args : Array Value} {below : List Frame} {meth : Method} {c : Code} {D : va_G} {dA : Nat → ClassId} {s0 : Nat} {T : xT} {N : xT} {Z : Nat} {S : Nat} {I : xI} {L : xL} {R : xR} {H : Heap} {locs : List Loc} {ls : Array Slot}  {x0 : Nat} {ro : (Nat ⊕ Int32)} {To : xT} {No : xT} {Zo : Nat} {So : Nat} {Io : xI} {Ro : xR} (X : Cx D dA s0 p m c cX6_number 5 s args RX6 meth) (hr : meth.sig.returnType = (some .int)) (htE : c.exceptionTable.toList = [])   (hf : fX6_number_rX20_b81 nf (sv dA) T N Z S I R x0 = some (ro, To, No, Zo, So, Io, Ro)) (V : Iv D dA s0 s T N Z I L R H locs) (hl : lv_has ls 5 [(0, .ref x0)]) (hB : cells + (Zo - Z) ≤ kc ∧ slots + (So - S) ≤ ks) : W p l e { frames := 4, cells := kc, slots := ks, locals := 89 } s m args below meth c H locs cells slots (vx_MQ below (yQ D dA s0 (rI ro) To No Zo Io L Ro) (yX D dA s0 (rI ro) To No Zo Io L Ro) args s kc ks (fun q => s0 ≤ q)) (F0 m 81 ls []) := by
  have hx := X.1.1
  have hb := X.1.2.1
  unfold fX6_number_rX20_b81 at hf
  replace hf := nm_s hf; obtain ⟨T1, hT1, hf⟩ := hf
  replace hf := nm_s hf; obtain ⟨Z2, hZ2, hf⟩ := hf
  replace hf := nm_s hf; obtain ⟨S3, hS3, hf⟩ := hf
  have hm := zX6_number_rX20_b84 hf
  refine x_new (pc := 81) X V okX8 hT1 hZ2 q855 q856 q138 (by show _ ≤ kc; omega) (by show _ ≤ ks; omega) dX6_number_81 (fun H V => ?_)
  exact wX6_number_rX20_b84 X hr htE hf V (lv_sub hl [0] rfl) ⟨by omega, by omega⟩
set_option maxHeartbeats 400000 in
set_option maxRecDepth 100000 in
theorem zX6_number_rX20_b71 {nf : Nat} {dA : Nat → ClassId} {T : xT} {N : xT} {Z : Nat} {S : Nat} {I : xI} {R : xR}  {x0 : Nat} {x1 : Int32} {x2 : Int32} {x3 : Int32} {ro : (Nat ⊕ Int32)} {To : xT} {No : xT} {Zo : Nat} {So : Nat} {Io : xI} {Ro : xR}  (hf : fX6_number_rX20_b71 nf (sv dA) T N Z S I R x0 x1 x2 x3 = some (ro, To, No, Zo, So, Io, Ro)) : Z ≤ Zo ∧ S ≤ So := by
  unfold fX6_number_rX20_b71 at hf
  rcases (Decidable.em (x3 < x1)) with c1 | c1
  · replace hf := if_t hf c1
    have hm := zX6_number_rX20_b81 hf
    exact ⟨by omega, by omega⟩
  · replace hf := if_f hf c1
    rcases (Decidable.em (x3 ≤ x2)) with c2 | c2
    · replace hf := if_t hf c2
      replace hf := tg_s hf; obtain ⟨ht5, hf⟩ := hf
      replace hf := bs hf; obtain ⟨I3, hk_4, hf⟩ := hf
      cases hf
      exact ⟨Nat.le_refl _, Nat.le_refl _⟩
    · replace hf := if_f hf c2
      have hm := zX6_number_rX20_b81 hf
      exact ⟨by omega, by omega⟩
set_option maxHeartbeats 400000 in
set_option maxRecDepth 100000 in
theorem wX6_number_rX20_b71 {nf : Nat} {kc ks : Nat} {cells slots : Nat} {p : Program} {l : Launch} {e : Env} {s : State} {m : MethodId} {args : Array Value} {below : List Frame} {meth : Method} {c : Code} {D : va_G} {dA : Nat → ClassId} {s0 : Nat} {T : xT} {N : xT} {Z : Nat} {S : Nat} {I : xI} {L : xL} {R : xR} {H : Heap} {locs : List Loc} {ls : Array Slot}  {x0 : Nat} {x1 : Int32} {x2 : Int32} {x3 : Int32} {ro : (Nat ⊕ Int32)} {To : xT} {No : xT} {Zo : Nat} {So : Nat} {Io : xI} {Ro : xR} (X : Cx D dA s0 p m c cX6_number 5 s args RX6 meth) (hr : meth.sig.returnType = (some .int)) (htE : c.exceptionTable.toList = [])   (hf : fX6_number_rX20_b71 nf (sv dA) T N Z S I R x0 x1 x2 x3 = some (ro, To, No, Zo, So, Io, Ro)) (V : Iv D dA s0 s T N Z I L R H locs) (hl : lv_has ls 5 [(0, .ref x0), (1, .int x1), (2, .int x2), (3, .int x3)]) (hB : cells + (Zo - Z) ≤ kc ∧ slots + (So - S) ≤ ks) : W p l e { frames := 4, cells := kc, slots := ks, locals := 89 } s m args below meth c H locs cells slots (vx_MQ below (yQ D dA s0 (rI ro) To No Zo Io L Ro) (yX D dA s0 (rI ro) To No Zo Io L Ro) args s kc ks (fun q => s0 ≤ q)) (F0 m 71 ls []) := by
  have hx := X.1.1
  have hb := X.1.2.1
  unfold fX6_number_rX20_b71 at hf
  refine lv_iload_n (pc := 71) hx hb dX6_number_71 rfl (lv_at hl 3 rfl) ?_
  refine lv_iload_n (pc := 72) hx hb dX6_number_72 rfl (lv_at hl 1 rfl) ?_
  refine lv_icmp_lt (pc := 73) (tgt := 81) hx hb dX6_number_73 (by decide) (fun c1 => ?_) (fun c1 => ?_)
  · replace hf := if_t hf c1
    exact wX6_number_rX20_b81 X hr htE hf V (lv_sub hl [0] rfl) ⟨by omega, by omega⟩
  · replace hf := if_f hf c1
    refine lv_iload_n (pc := 76) hx hb dX6_number_76 rfl (lv_at hl 3 rfl) ?_
    refine lv_iload_n (pc := 77) hx hb dX6_number_77 rfl (lv_at hl 2 rfl) ?_
    refine lv_icmp_le (pc := 78) (tgt := 93) hx hb dX6_number_78 (by decide) (fun c2 => ?_) (fun c2 => ?_)
    · replace hf := if_t hf c2
      refine lv_aload_n (pc := 93) hx hb dX6_number_93 rfl (lv_at hl 0 rfl) ?_
      replace hf := tg_s hf; obtain ⟨ht5, hf⟩ := hf
      replace hf := bs hf; obtain ⟨I3, hk_4, hf⟩ := hf
      refine x_callU (pc := 94) (As := []) (rest := []) X V (mX6_next_rX20 l D dA s0 hk_4) okX20 ht5 q776 q778 q780 q777 q133 q781 rfl hsX6_next_rX20 ⟨Nat.le_of_ble_eq_true rfl, Nat.le_of_ble_eq_true rfl⟩ rfl hl.1 rfl (Nat.le_of_ble_eq_true rfl) dX6_number_94 ⟨by show cells ≤ kc; omega, by show slots ≤ ks; omega⟩ (fun H locs V => W.eq (g2 := F0 m 97 ls []) rfl ?_)
      refine lv_iload_n (pc := 97) hx hb dX6_number_97 rfl (lv_at hl 3 rfl) ?_
      cases hf
      exact y_iret (pc := 98) X V hr (by omega) (by omega) dX6_number_98
    · replace hf := if_f hf c2
      exact wX6_number_rX20_b81 X hr htE hf V (lv_sub hl [0] rfl) ⟨by omega, by omega⟩
set_option maxHeartbeats 400000 in
set_option maxRecDepth 100000 in
theorem zX6_number_rX20_b35 {nf : Nat} {dA : Nat → ClassId}   {ro : (Nat ⊕ Int32)} {To : xT} {No : xT} {Zo : Nat} {So : Nat} {Io : xI} {Ro : xR}  (k : Nat) : ∀ {T : xT} {N : xT} {Z : Nat} {S : Nat} {I : xI} {R : xR} {x0 : Nat} {x1 : Int32} {x2 : Int32} {x3 : Int32} {x4 : Int32}, fX6_number_rX20_b35 nf (sv dA) k T N Z S I R x0 x1 x2 x3 x4 = some (ro, To, No, Zo, So, Io, Ro) → Z ≤ Zo ∧ S ≤ So := by
  induction k with
  | zero =>
    intro T N Z S I R x0 x1 x2 x3 x4 hf
    exact absurd (show none = some _ from hf) (fun q => nomatch q)
  | succ k ih =>
    intro T N Z S I R x0 x1 x2 x3 x4 hf
    rw [fX6_number_rX20_b35] at hf
    replace hf := tg_s hf; obtain ⟨ht1, hf⟩ := hf
    rcases (Decidable.em ((I x0 4) ≤ x4)) with c2 | c2
    · replace hf := if_t hf c2
      have hm := zX6_number_rX20_b71 hf
      exact ⟨by omega, by omega⟩
    · replace hf := if_f hf c2
      rcases (Decidable.em (x2 < x3)) with c3 | c3
      · replace hf := if_t hf c3
        have hm := zX6_number_rX20_b71 hf
        exact ⟨by omega, by omega⟩
      · replace hf := if_f hf c3
        replace hf := bs hf; obtain ⟨a4, ha4, hf⟩ := hf
        replace hf := rA_s hf; obtain ⟨j5, hjj5, htj5, hij5, hf⟩ := hf
        replace hf := nm_s hf; obtain ⟨u6, hu6, hf⟩ := hf
        replace hf := nm_s hf; obtain ⟨u7, hu7, hf⟩ := hf
        have hm := ih hf
        exact ⟨by omega, by omega⟩
set_option maxHeartbeats 400000 in
set_option maxRecDepth 100000 in
theorem wX6_number_rX20_b35 {nf : Nat} {kc ks : Nat} {p : Program} {l : Launch} {e : Env} {s : State} {m : MethodId} {args : Array Value} {below : List Frame} {meth : Method} {c : Code} {D : va_G} {dA : Nat → ClassId} {s0 : Nat} {L : xL}  {ro : (Nat ⊕ Int32)} {To : xT} {No : xT} {Zo : Nat} {So : Nat} {Io : xI} {Ro : xR} (X : Cx D dA s0 p m c cX6_number 5 s args RX6 meth) (hr : meth.sig.returnType = (some .int)) (htE : c.exceptionTable.toList = [])   (k : Nat) : ∀ {T : xT} {N : xT} {Z : Nat} {S : Nat} {I : xI} {R : xR} {x0 : Nat} {x1 : Int32} {x2 : Int32} {x3 : Int32} {x4 : Int32} {H : Heap} {locs : List Loc} {ls : Array Slot} {cells slots : Nat} , fX6_number_rX20_b35 nf (sv dA) k T N Z S I R x0 x1 x2 x3 x4 = some (ro, To, No, Zo, So, Io, Ro) → Iv D dA s0 s T N Z I L R H locs → lv_has ls 5 [(0, .ref x0), (1, .int x1), (2, .int x2), (3, .int x3), (4, .int x4)] → cells + (Zo - Z) ≤ kc ∧ slots + (So - S) ≤ ks → W p l e { frames := 4, cells := kc, slots := ks, locals := 89 } s m args below meth c H locs cells slots (vx_MQ below (yQ D dA s0 (rI ro) To No Zo Io L Ro) (yX D dA s0 (rI ro) To No Zo Io L Ro) args s kc ks (fun q => s0 ≤ q)) (F0 m 35 ls []) := by
  have hx := X.1.1
  have hb := X.1.2.1
  induction k with
  | zero =>
    intro T N Z S I R x0 x1 x2 x3 x4 H locs ls cells slots hf V hl hB
    exact absurd (show none = some _ from hf) (fun q => nomatch q)
  | succ k ih =>
    intro T N Z S I R x0 x1 x2 x3 x4 H locs ls cells slots hf V hl hB
    have ihm : ∀ {T : xT} {N : xT} {Z : Nat} {S : Nat} {I : xI} {R : xR} {x0 : Nat} {x1 : Int32} {x2 : Int32} {x3 : Int32} {x4 : Int32}, fX6_number_rX20_b35 nf (sv dA) k T N Z S I R x0 x1 x2 x3 x4 = some (ro, To, No, Zo, So, Io, Ro) → Z ≤ Zo ∧ S ≤ So := zX6_number_rX20_b35 k
    rw [fX6_number_rX20_b35] at hf
    refine lv_iload (pc := 35) hx hb dX6_number_35 (lv_at hl 4 rfl) ?_
    refine lv_aload_n (pc := 37) hx hb dX6_number_37 rfl (lv_at hl 0 rfl) ?_
    replace hf := tg_s hf; obtain ⟨ht1, hf⟩ := hf
    refine x_get (pc := 38) X V okX20 ht1 4 (by decide) q745 (v := .int (I x0 4)) rfl dX6_number_38 ?_
    refine lv_icmp_ge (pc := 41) (tgt := 71) hx hb dX6_number_41 (by decide) (fun c2 => ?_) (fun c2 => ?_)
    · replace hf := if_t hf c2
      exact wX6_number_rX20_b71 X hr htE hf V (lv_sub hl [0, 1, 2, 3] rfl) ⟨by omega, by omega⟩
    · replace hf := if_f hf c2
      refine lv_iload_n (pc := 44) hx hb dX6_number_44 rfl (lv_at hl 3 rfl) ?_
      refine lv_iload_n (pc := 45) hx hb dX6_number_45 rfl (lv_at hl 2 rfl) ?_
      refine lv_icmp_gt (pc := 46) (tgt := 71) hx hb dX6_number_46 (by decide) (fun c3 => ?_) (fun c3 => ?_)
      · replace hf := if_t hf c3
        exact wX6_number_rX20_b71 X hr htE hf V (lv_sub hl [0, 1, 2, 3] rfl) ⟨by omega, by omega⟩
      · replace hf := if_f hf c3
        refine lv_bipush (pc := 49) (v := (ii 10)) hx hb dX6_number_49 (by decide) ?_
        refine lv_iload_n (pc := 51) hx hb dX6_number_51 rfl (lv_at hl 3 rfl) ?_
        refine lv_imul (pc := 52) hx hb dX6_number_52 ?_
        refine lv_aload_n (pc := 53) hx hb dX6_number_53 rfl (lv_at hl 0 rfl) ?_
        replace hf := bs hf; obtain ⟨a4, ha4, hf⟩ := hf
        refine x_get (pc := 54) X V okX20 ht1 0 (by decide) q741 (v := va_rf (R x0 0)) rfl dX6_number_54 ?_
        refine x_topr ha4 ?_
        refine lv_iload (pc := 57) hx hb dX6_number_57 (lv_at hl 4 rfl) ?_
        replace hf := rA_s hf; obtain ⟨j5, hjj5, htj5, hij5, hf⟩ := hf
        refine x_bald (pc := 59) X V htj5 hij5 hjj5 dX6_number_59 ?_
        refine lv_iadd (pc := 60) hx hb dX6_number_60 ?_
        refine lv_bipush (pc := 61) (v := (ii 48)) hx hb dX6_number_61 (by decide) ?_
        refine lv_isub (pc := 63) hx hb dX6_number_63 ?_
        replace hf := nm_s hf; obtain ⟨u6, hu6, hf⟩ := hf
        refine x_topi hu6 ?_
        refine lv_istore_n (pc := 64) (lv' := [(3, .int u6), (0, .ref x0), (1, .int x1), (2, .int x2), (4, .int x4)]) hx hb dX6_number_64 rfl hl (by decide) rfl (fun ls hl => ?_)
        replace hf := nm_s hf; obtain ⟨u7, hu7, hf⟩ := hf
        refine lv_iinc (pc := 65) (v := u7) (lv' := [(4, .int u7), (3, .int u6), (0, .ref x0), (1, .int x1), (2, .int x2)]) hx hb dX6_number_65 hl (k := 4) rfl (by rw [hu7]; rfl) (by decide) rfl (fun ls hl => ?_)
        refine lv_goto (pc := 68) (tgt := 35) hx hb dX6_number_68 (by decide) ?_
        exact ih hf V (lv_sub hl [2, 3, 4, 1, 0] rfl) ⟨by omega, by omega⟩
set_option maxHeartbeats 400000 in
set_option maxRecDepth 100000 in
theorem zX6_number_rX20_b18 {nf : Nat} {dA : Nat → ClassId} {T : xT} {N : xT} {Z : Nat} {S : Nat} {I : xI} {R : xR}  {x0 : Nat} {z0 : Nat} {ro : (Nat ⊕ Int32)} {To : xT} {No : xT} {Zo : Nat} {So : Nat} {Io : xI} {Ro : xR}  (hf : fX6_number_rX20_b18 nf (sv dA) T N Z S I R x0 z0 = some (ro, To, No, Zo, So, Io, Ro)) : Z ≤ Zo ∧ S ≤ So := by
  unfold fX6_number_rX20_b18 at hf
  replace hf := tg_s hf; obtain ⟨ht1, hf⟩ := hf
  replace hf := b2s hf; obtain ⟨I2, R3, hk_4, hf⟩ := hf
  replace hf := tg_s hf; obtain ⟨ht5, hf⟩ := hf
  cases hf
  exact ⟨Nat.le_refl _, Nat.le_refl _⟩
set_option maxHeartbeats 400000 in
set_option maxRecDepth 100000 in
theorem wX6_number_rX20_b18 {nf : Nat} {kc ks : Nat} {cells slots : Nat} {p : Program} {l : Launch} {e : Env} {s : State} {m : MethodId} {args : Array Value} {below : List Frame} {meth : Method} {c : Code} {D : va_G} {dA : Nat → ClassId} {s0 : Nat} {T : xT} {N : xT} {Z : Nat} {S : Nat} {I : xI} {L : xL} {R : xR} {H : Heap} {locs : List Loc} {ls : Array Slot}  {x0 : Nat} {z0 : Nat} {ro : (Nat ⊕ Int32)} {To : xT} {No : xT} {Zo : Nat} {So : Nat} {Io : xI} {Ro : xR} (X : Cx D dA s0 p m c cX6_number 5 s args RX6 meth) (hr : meth.sig.returnType = (some .int)) (htE : c.exceptionTable.toList = [])   (hf : fX6_number_rX20_b18 nf (sv dA) T N Z S I R x0 z0 = some (ro, To, No, Zo, So, Io, Ro)) (V : Iv D dA s0 s T N Z I L R H locs) (hl : lv_has ls 5 [(0, .ref x0)]) (hB : cells + (Zo - Z) ≤ kc ∧ slots + (So - S) ≤ ks) : W p l e { frames := 4, cells := kc, slots := ks, locals := 89 } s m args below meth c H locs cells slots (vx_MQ below (yQ D dA s0 (rI ro) To No Zo Io L Ro) (yX D dA s0 (rI ro) To No Zo Io L Ro) args s kc ks (fun q => s0 ≤ q)) (F0 m 18 ls [.ref z0]) := by
  have hx := X.1.1
  have hb := X.1.2.1
  unfold fX6_number_rX20_b18 at hf
  refine lv_dup (pc := 18) hx hb dX6_number_18 rfl ?_
  refine lv_aload_n (pc := 19) hx hb dX6_number_19 rfl (lv_at hl 0 rfl) ?_
  replace hf := tg_s hf; obtain ⟨ht1, hf⟩ := hf
  refine x_get (pc := 20) X V okX20 ht1 3 (by decide) q744 (v := .int (I x0 3)) rfl dX6_number_20 ?_
  replace hf := b2s hf; obtain ⟨I2, R3, hk_4, hf⟩ := hf
  refine x_callI0 (pc := 23) (As := [.int (I x0 3)]) (rest := [.ref z0]) X V (mX8_init l D dA s0 hk_4) q864 q865 q138 q866 rfl hsX8_init ⟨Nat.le_of_ble_eq_true rfl, Nat.le_of_ble_eq_true rfl⟩ rfl hl.1 rfl (Nat.le_of_ble_eq_true rfl) dX6_number_23 ⟨by show cells ≤ kc; omega, by show slots ≤ ks; omega⟩ (fun H locs V => W.eq (g2 := F0 m 26 ls [.ref z0]) rfl ?_)
  replace hf := tg_s hf; obtain ⟨ht5, hf⟩ := hf
  refine vx_athrow (pc := 26) hx hb dX6_number_26 ?_
  cases hf
  exact y_out X V htE okX8 ht5 (by omega) (by omega)
set_option maxHeartbeats 400000 in
set_option maxRecDepth 100000 in
theorem zX6_number_rX20 {nf : Nat} {dA : Nat → ClassId} {T : xT} {N : xT} {Z : Nat} {S : Nat} {I : xI} {R : xR} {x0 : Nat} {x1 : Int32} {x2 : Int32} {ro : (Nat ⊕ Int32)} {To : xT} {No : xT} {Zo : Nat} {So : Nat} {Io : xI} {Ro : xR} (hf : fX6_number_rX20 nf (sv dA) T N Z S I R x0 x1 x2 = some (ro, To, No, Zo, So, Io, Ro)) : Z ≤ Zo ∧ S ≤ So := by
  unfold fX6_number_rX20 at hf
  replace hf := tg_s hf; obtain ⟨ht1, hf⟩ := hf
  replace hf := bs hf; obtain ⟨r2, hk_3, hf⟩ := hf
  rcases (Decidable.em (r2 = (ii 0))).symm with c4 | c4
  · replace hf := if_f hf c4
    replace hf := nm_s hf; obtain ⟨u5, hu5, hf⟩ := hf
    have hm := zX6_number_rX20_b35 nf hf
    exact ⟨by omega, by omega⟩
  · replace hf := if_t hf c4
    replace hf := nm_s hf; obtain ⟨T6, hT6, hf⟩ := hf
    replace hf := nm_s hf; obtain ⟨Z7, hZ7, hf⟩ := hf
    replace hf := nm_s hf; obtain ⟨S8, hS8, hf⟩ := hf
    have hm := zX6_number_rX20_b18 hf
    exact ⟨by omega, by omega⟩
set_option maxHeartbeats 400000 in
set_option maxRecDepth 100000 in
theorem wX6_number_rX20_e {nf : Nat} {kc ks : Nat} {cells slots : Nat} {p : Program} {l : Launch} {e : Env} {s : State} {m : MethodId} {args : Array Value} {below : List Frame} {meth : Method} {c : Code} {D : va_G} {dA : Nat → ClassId} {s0 : Nat} {T : xT} {N : xT} {Z : Nat} {S : Nat} {I : xI} {L : xL} {R : xR} {H : Heap} {locs : List Loc} {ls : Array Slot} {x0 : Nat} {x1 : Int32} {x2 : Int32} {ro : (Nat ⊕ Int32)} {To : xT} {No : xT} {Zo : Nat} {So : Nat} {Io : xI} {Ro : xR} (X : Cx D dA s0 p m c cX6_number 5 s args RX6 meth) (hr : meth.sig.returnType = (some .int)) (htE : c.exceptionTable.toList = []) (hf : fX6_number_rX20 nf (sv dA) T N Z S I R x0 x1 x2 = some (ro, To, No, Zo, So, Io, Ro)) (V : Iv D dA s0 s T N Z I L R H locs) (hl : lv_has ls 5 [(0, .ref x0), (1, .int x1), (2, .int x2)]) (hB : cells + (Zo - Z) ≤ kc ∧ slots + (So - S) ≤ ks) : W p l e { frames := 4, cells := kc, slots := ks, locals := 89 } s m args below meth c H locs cells slots (vx_MQ below (yQ D dA s0 (rI ro) To No Zo Io L Ro) (yX D dA s0 (rI ro) To No Zo Io L Ro) args s kc ks (fun q => s0 ≤ q)) (F0 m 0 ls []) := by
  have hx := X.1.1
  have hb := X.1.2.1
  unfold fX6_number_rX20 at hf
  refine lv_aload_n (pc := 0) hx hb dX6_number_0 rfl (lv_at hl 0 rfl) ?_
  refine lv_aload_n (pc := 1) hx hb dX6_number_1 rfl (lv_at hl 0 rfl) ?_
  replace hf := tg_s hf; obtain ⟨ht1, hf⟩ := hf
  refine x_get (pc := 2) X V okX20 ht1 3 (by decide) q744 (v := .int (I x0 3)) rfl dX6_number_2 ?_
  refine lv_bipush (pc := 5) (v := (ii 48)) hx hb dX6_number_5 (by decide) ?_
  refine lv_bipush (pc := 7) (v := (ii 57)) hx hb dX6_number_7 (by decide) ?_
  replace hf := bs hf; obtain ⟨r2, hk_3, hf⟩ := hf
  refine x_callU (pc := 9) (As := [.int (I x0 3), .int (ii 48), .int (ii 57)]) (rest := []) X V (mX6_isIn_rX20 l D dA s0 hk_3) okX20 ht1 q782 q784 q786 q783 q133 q787 rfl hsX6_isIn_rX20 ⟨Nat.le_of_ble_eq_true rfl, Nat.le_of_ble_eq_true rfl⟩ rfl hl.1 rfl (Nat.le_of_ble_eq_true rfl) dX6_number_9 ⟨by show cells ≤ kc; omega, by show slots ≤ ks; omega⟩ (fun H locs V => W.eq (g2 := F0 m 12 ls [.int r2]) rfl ?_)
  refine lv_if_ne (pc := 12) (tgt := 27) hx hb dX6_number_12 (by decide) (fun c4 => ?_) (fun c4 => ?_)
  · replace hf := if_f hf c4
    refine lv_iconst (pc := 27) (v := (ii 0)) hx hb dX6_number_27 (by decide) ?_
    refine lv_istore_n (pc := 28) (lv' := [(3, .int (ii 0)), (0, .ref x0), (1, .int x1), (2, .int x2)]) hx hb dX6_number_28 rfl hl (by decide) rfl (fun ls hl => ?_)
    refine lv_aload_n (pc := 29) hx hb dX6_number_29 rfl (lv_at hl 1 rfl) ?_
    refine x_get (pc := 30) X V okX20 ht1 3 (by decide) q744 (v := .int (I x0 3)) rfl dX6_number_30 ?_
    replace hf := nm_s hf; obtain ⟨u5, hu5, hf⟩ := hf
    refine x_topi hu5 ?_
    refine lv_istore (pc := 33) (lv' := [(4, .int u5), (3, .int (ii 0)), (0, .ref x0), (1, .int x1), (2, .int x2)]) hx hb dX6_number_33 hl (by decide) rfl (fun ls hl => ?_)
    exact wX6_number_rX20_b35 X hr htE nf hf V (lv_sub hl [2, 3, 4, 1, 0] rfl) ⟨by omega, by omega⟩
  · replace hf := if_t hf c4
    replace hf := nm_s hf; obtain ⟨T6, hT6, hf⟩ := hf
    replace hf := nm_s hf; obtain ⟨Z7, hZ7, hf⟩ := hf
    replace hf := nm_s hf; obtain ⟨S8, hS8, hf⟩ := hf
    have hm := zX6_number_rX20_b18 hf
    refine x_new (pc := 15) X V okX8 hT6 hZ7 q855 q856 q138 (by show _ ≤ kc; omega) (by show _ ≤ ks; omega) dX6_number_15 (fun H V => ?_)
    exact wX6_number_rX20_b18 X hr htE hf V (lv_sub hl [0] rfl) ⟨by omega, by omega⟩
theorem mX6_number_rX20 {nf : Nat} (l : Launch) (D : va_G) (dA : Nat → ClassId) (s0 : Nat) {kc ks : Nat} {T : xT} {N : xT} {Z : Nat} {S : Nat} {I : xI} {L : xL} {R : xR} {x0 : Nat} {x1 : Int32} {x2 : Int32} {ro : (Nat ⊕ Int32)} {To : xT} {No : xT} {Zo : Nat} {So : Nat} {Io : xI} {Ro : xR} (hZ : Zo - Z ≤ kc) (hS : So - S ≤ ks) (hf : fX6_number_rX20 nf (sv dA) T N Z S I R x0 x1 x2 = some (ro, To, No, Zo, So, Io, Ro)) : YMet l D dA s0 yX6_number (ws_ yX6_number cX6_number 5 ((some .int))) (4) (89) [.ref x0, .int x1, .int x2] T N Z I L R (rI ro) To No Zo Io L Ro kc ks :=
  y_start (own := RX6) rfl (by decide) (Nat.le_of_ble_eq_true rfl) (lv := [(0, .ref x0), (1, .int x1), (2, .int x2)]) rfl (fun p e s m below meth c ls X hr htE V hl => wX6_number_rX20_e X hr htE hf V hl ⟨by omega, by omega⟩)
set_option maxHeartbeats 400000 in
set_option maxRecDepth 100000 in
theorem zX20_value_b91 {nf : Nat} {dA : Nat → ClassId} {T : xT} {N : xT} {Z : Nat} {S : Nat} {I : xI} {R : xR}  {z0 : Int32} {z1 : Int32} {ro : (Nat ⊕ Int32)} {To : xT} {No : xT} {Zo : Nat} {So : Nat} {Io : xI} {Ro : xR}  (hf : fX20_value_b91 nf (sv dA) T N Z S I R z0 z1 = some (ro, To, No, Zo, So, Io, Ro)) : Z ≤ Zo ∧ S ≤ So := by
  unfold fX20_value_b91 at hf
  cases hf
  exact ⟨Nat.le_refl _, Nat.le_refl _⟩
set_option maxHeartbeats 400000 in
set_option maxRecDepth 100000 in
theorem wX20_value_b91 {nf : Nat} {kc ks : Nat} {cells slots : Nat} {p : Program} {l : Launch} {e : Env} {s : State} {m : MethodId} {args : Array Value} {below : List Frame} {meth : Method} {c : Code} {D : va_G} {dA : Nat → ClassId} {s0 : Nat} {T : xT} {N : xT} {Z : Nat} {S : Nat} {I : xI} {L : xL} {R : xR} {H : Heap} {locs : List Loc} {ls : Array Slot}  {z0 : Int32} {z1 : Int32} {ro : (Nat ⊕ Int32)} {To : xT} {No : xT} {Zo : Nat} {So : Nat} {Io : xI} {Ro : xR} (X : Cx D dA s0 p m c cX20_value 1 s args RX20 meth) (hr : meth.sig.returnType = (some .int)) (htE : c.exceptionTable.toList = [])   (hf : fX20_value_b91 nf (sv dA) T N Z S I R z0 z1 = some (ro, To, No, Zo, So, Io, Ro)) (V : Iv D dA s0 s T N Z I L R H locs) (hl : lv_has ls 1 []) (hB : cells + (Zo - Z) ≤ kc ∧ slots + (So - S) ≤ ks) : W p l e { frames := 7, cells := kc, slots := ks, locals := 149 } s m args below meth c H locs cells slots (vx_MQ below (yQ D dA s0 (rI ro) To No Zo Io L Ro) (yX D dA s0 (rI ro) To No Zo Io L Ro) args s kc ks (fun q => s0 ≤ q)) (F0 m 91 ls [.int z1, .int z0]) := by
  have hx := X.1.1
  have hb := X.1.2.1
  unfold fX20_value_b91 at hf
  refine lv_iadd (pc := 91) hx hb dX20_value_91 ?_
  refine lv_goto (pc := 92) (tgt := 96) hx hb dX20_value_92 (by decide) ?_
  cases hf
  exact y_iret (pc := 96) X V hr (by omega) (by omega) dX20_value_96
set_option maxHeartbeats 400000 in
set_option maxRecDepth 100000 in
theorem zX20_value_b79 {nf : Nat} {dA : Nat → ClassId} {T : xT} {N : xT} {Z : Nat} {S : Nat} {I : xI} {R : xR}  {x0 : Nat} {z0 : Int32} {ro : (Nat ⊕ Int32)} {To : xT} {No : xT} {Zo : Nat} {So : Nat} {Io : xI} {Ro : xR}  (hf : fX20_value_b79 nf (sv dA) T N Z S I R x0 z0 = some (ro, To, No, Zo, So, Io, Ro)) : Z ≤ Zo ∧ S ≤ So := by
  unfold fX20_value_b79 at hf
  rcases (Decidable.em (z0 = (ii 0))) with c1 | c1
  · replace hf := if_t hf c1
    cases hf
    exact ⟨Nat.le_refl _, Nat.le_refl _⟩
  · replace hf := if_f hf c1
    replace hf := tg_s hf; obtain ⟨ht10, hf⟩ := hf
    replace hf := b7s hf; obtain ⟨r2, T3, N4, Z5, S6, I7, R8, hk_9, hf⟩ := hf
    have hm_hk_9 := zX6_number_rX20 hk_9
    replace hf := xc_s hf; rcases hf with ⟨a11, hr_13, hf⟩ | ⟨v12, hr_13, hf⟩
    · skip
      replace hf := tg_s hf; obtain ⟨ht14, hf⟩ := hf
      cases hf
      exact ⟨by omega, by omega⟩
    · skip
      have hm := zX20_value_b91 hf
      exact ⟨by omega, by omega⟩
set_option maxHeartbeats 400000 in
set_option maxRecDepth 100000 in
theorem wX20_value_b79 {nf : Nat} {kc ks : Nat} {cells slots : Nat} {p : Program} {l : Launch} {e : Env} {s : State} {m : MethodId} {args : Array Value} {below : List Frame} {meth : Method} {c : Code} {D : va_G} {dA : Nat → ClassId} {s0 : Nat} {T : xT} {N : xT} {Z : Nat} {S : Nat} {I : xI} {L : xL} {R : xR} {H : Heap} {locs : List Loc} {ls : Array Slot}  {x0 : Nat} {z0 : Int32} {ro : (Nat ⊕ Int32)} {To : xT} {No : xT} {Zo : Nat} {So : Nat} {Io : xI} {Ro : xR} (X : Cx D dA s0 p m c cX20_value 1 s args RX20 meth) (hr : meth.sig.returnType = (some .int)) (htE : c.exceptionTable.toList = [])   (hf : fX20_value_b79 nf (sv dA) T N Z S I R x0 z0 = some (ro, To, No, Zo, So, Io, Ro)) (V : Iv D dA s0 s T N Z I L R H locs) (hl : lv_has ls 1 [(0, .ref x0)]) (hB : cells + (Zo - Z) ≤ kc ∧ slots + (So - S) ≤ ks) : W p l e { frames := 7, cells := kc, slots := ks, locals := 149 } s m args below meth c H locs cells slots (vx_MQ below (yQ D dA s0 (rI ro) To No Zo Io L Ro) (yX D dA s0 (rI ro) To No Zo Io L Ro) args s kc ks (fun q => s0 ≤ q)) (F0 m 79 ls [.int z0]) := by
  have hx := X.1.1
  have hb := X.1.2.1
  unfold fX20_value_b79 at hf
  refine lv_if_eq (pc := 79) (tgt := 95) hx hb dX20_value_79 (by decide) (fun c1 => ?_) (fun c1 => ?_)
  · replace hf := if_t hf c1
    refine lv_iconst (pc := 95) (v := (-1 : Int32)) hx hb dX20_value_95 (by decide) ?_
    cases hf
    exact y_iret (pc := 96) X V hr (by omega) (by omega) dX20_value_96
  · replace hf := if_f hf c1
    refine lv_bipush (pc := 82) (v := (ii 9)) hx hb dX20_value_82 (by decide) ?_
    refine lv_aload_n (pc := 84) hx hb dX20_value_84 rfl (lv_at hl 0 rfl) ?_
    refine lv_iconst (pc := 85) (v := (ii 0)) hx hb dX20_value_85 (by decide) ?_
    refine lv_bipush (pc := 86) (v := (ii 9)) hx hb dX20_value_86 (by decide) ?_
    replace hf := tg_s hf; obtain ⟨ht10, hf⟩ := hf
    replace hf := b7s hf; obtain ⟨r2, T3, N4, Z5, S6, I7, R8, hk_9, hf⟩ := hf
    have hm_hk_9 := zX6_number_rX20 hk_9
    replace hf := xc_s hf; rcases hf with ⟨a11, hr_13, hf⟩ | ⟨v12, hr_13, hf⟩
    · rw [hr_13] at hk_9
      replace hf := tg_s hf; obtain ⟨ht14, hf⟩ := hf
      have hzE : Z5 = Zo := by cases hf; rfl
      have hsE : S6 = So := by cases hf; rfl
      refine y_afterX (y_runU (pc := 88) (As := [.int (ii 0), .int (ii 9)]) (rest := [.int (ii 9)]) X V (mX6_number_rX20 l D dA s0 (kc := Z5 - Z) (ks := S6 - S) (Nat.le_refl _) (Nat.le_refl _) hk_9) okX20 ht10 q995 q996 q998 q946 q133 q950 rfl hsX6_number_rX20 ⟨Nat.le_of_ble_eq_true rfl, Nat.le_of_ble_eq_true rfl⟩ rfl hl.1 rfl (Nat.le_of_ble_eq_true rfl) dX20_value_88 ⟨by show _ ≤ kc; omega, by show _ ≤ ks; omega⟩) V (fun H locs V => ?_)
      cases hf
      exact y_out X V htE okX8 ht14 (by omega) (by omega)
    · rw [hr_13] at hk_9
      have hm := zX20_value_b91 hf
      refine y_afterR (y_runU (pc := 88) (As := [.int (ii 0), .int (ii 9)]) (rest := [.int (ii 9)]) X V (mX6_number_rX20 l D dA s0 (kc := Z5 - Z) (ks := S6 - S) (Nat.le_refl _) (Nat.le_refl _) hk_9) okX20 ht10 q995 q996 q998 q946 q133 q950 rfl hsX6_number_rX20 ⟨Nat.le_of_ble_eq_true rfl, Nat.le_of_ble_eq_true rfl⟩ rfl hl.1 rfl (Nat.le_of_ble_eq_true rfl) dX20_value_88 ⟨by show _ ≤ kc; omega, by show _ ≤ ks; omega⟩) V (fun H locs V => W.eq (g2 := F0 m 91 ls [.int v12, .int (ii 9)]) rfl ?_)
      exact wX20_value_b91 X hr htE hf V (lv_sub hl [] rfl) ⟨by omega, by omega⟩
set_option maxHeartbeats 400000 in
set_option maxRecDepth 100000 in
theorem zX20_value_b71 {nf : Nat} {dA : Nat → ClassId} {T : xT} {N : xT} {Z : Nat} {S : Nat} {I : xI} {R : xR}  {z0 : Int32} {z1 : Int32} {ro : (Nat ⊕ Int32)} {To : xT} {No : xT} {Zo : Nat} {So : Nat} {Io : xI} {Ro : xR}  (hf : fX20_value_b71 nf (sv dA) T N Z S I R z0 z1 = some (ro, To, No, Zo, So, Io, Ro)) : Z ≤ Zo ∧ S ≤ So := by
  unfold fX20_value_b71 at hf
  cases hf
  exact ⟨Nat.le_refl _, Nat.le_refl _⟩
set_option maxHeartbeats 400000 in
set_option maxRecDepth 100000 in
theorem wX20_value_b71 {nf : Nat} {kc ks : Nat} {cells slots : Nat} {p : Program} {l : Launch} {e : Env} {s : State} {m : MethodId} {args : Array Value} {below : List Frame} {meth : Method} {c : Code} {D : va_G} {dA : Nat → ClassId} {s0 : Nat} {T : xT} {N : xT} {Z : Nat} {S : Nat} {I : xI} {L : xL} {R : xR} {H : Heap} {locs : List Loc} {ls : Array Slot}  {z0 : Int32} {z1 : Int32} {ro : (Nat ⊕ Int32)} {To : xT} {No : xT} {Zo : Nat} {So : Nat} {Io : xI} {Ro : xR} (X : Cx D dA s0 p m c cX20_value 1 s args RX20 meth) (hr : meth.sig.returnType = (some .int)) (htE : c.exceptionTable.toList = [])   (hf : fX20_value_b71 nf (sv dA) T N Z S I R z0 z1 = some (ro, To, No, Zo, So, Io, Ro)) (V : Iv D dA s0 s T N Z I L R H locs) (hl : lv_has ls 1 []) (hB : cells + (Zo - Z) ≤ kc ∧ slots + (So - S) ≤ ks) : W p l e { frames := 7, cells := kc, slots := ks, locals := 149 } s m args below meth c H locs cells slots (vx_MQ below (yQ D dA s0 (rI ro) To No Zo Io L Ro) (yX D dA s0 (rI ro) To No Zo Io L Ro) args s kc ks (fun q => s0 ≤ q)) (F0 m 71 ls [.int z1, .int z0]) := by
  have hx := X.1.1
  have hb := X.1.2.1
  unfold fX20_value_b71 at hf
  refine lv_iadd (pc := 71) hx hb dX20_value_71 ?_
  cases hf
  exact y_iret (pc := 72) X V hr (by omega) (by omega) dX20_value_72
set_option maxHeartbeats 400000 in
set_option maxRecDepth 100000 in
theorem zX20_value_b61 {nf : Nat} {dA : Nat → ClassId} {T : xT} {N : xT} {Z : Nat} {S : Nat} {I : xI} {R : xR}  {x0 : Nat} {z0 : Int32} {ro : (Nat ⊕ Int32)} {To : xT} {No : xT} {Zo : Nat} {So : Nat} {Io : xI} {Ro : xR}  (hf : fX20_value_b61 nf (sv dA) T N Z S I R x0 z0 = some (ro, To, No, Zo, So, Io, Ro)) : Z ≤ Zo ∧ S ≤ So := by
  unfold fX20_value_b61 at hf
  rcases (Decidable.em (z0 = (ii 0))) with c1 | c1
  · replace hf := if_t hf c1
    replace hf := bs hf; obtain ⟨a2, ha2, hf⟩ := hf
    replace hf := tg_s hf; obtain ⟨ht11, hf⟩ := hf
    replace hf := b7s hf; obtain ⟨r3, T4, N5, Z6, S7, I8, R9, hk_10, hf⟩ := hf
    have hm_hk_10 := zX6_isValue_rX20 hk_10
    replace hf := xc_s hf; rcases hf with ⟨a12, hr_14, hf⟩ | ⟨v13, hr_14, hf⟩
    · skip
      replace hf := tg_s hf; obtain ⟨ht15, hf⟩ := hf
      cases hf
      exact ⟨by omega, by omega⟩
    · skip
      have hm := zX20_value_b79 hf
      exact ⟨by omega, by omega⟩
  · replace hf := if_f hf c1
    replace hf := tg_s hf; obtain ⟨ht24, hf⟩ := hf
    replace hf := b7s hf; obtain ⟨r16, T17, N18, Z19, S20, I21, R22, hk_23, hf⟩ := hf
    have hm_hk_23 := zX6_number_rX20 hk_23
    replace hf := xc_s hf; rcases hf with ⟨a25, hr_27, hf⟩ | ⟨v26, hr_27, hf⟩
    · skip
      replace hf := tg_s hf; obtain ⟨ht28, hf⟩ := hf
      cases hf
      exact ⟨by omega, by omega⟩
    · skip
      have hm := zX20_value_b71 hf
      exact ⟨by omega, by omega⟩
set_option maxHeartbeats 400000 in
set_option maxRecDepth 100000 in
theorem wX20_value_b61 {nf : Nat} {kc ks : Nat} {cells slots : Nat} {p : Program} {l : Launch} {e : Env} {s : State} {m : MethodId} {args : Array Value} {below : List Frame} {meth : Method} {c : Code} {D : va_G} {dA : Nat → ClassId} {s0 : Nat} {T : xT} {N : xT} {Z : Nat} {S : Nat} {I : xI} {L : xL} {R : xR} {H : Heap} {locs : List Loc} {ls : Array Slot}  {x0 : Nat} {z0 : Int32} {ro : (Nat ⊕ Int32)} {To : xT} {No : xT} {Zo : Nat} {So : Nat} {Io : xI} {Ro : xR} (X : Cx D dA s0 p m c cX20_value 1 s args RX20 meth) (hr : meth.sig.returnType = (some .int)) (htE : c.exceptionTable.toList = [])   (hf : fX20_value_b61 nf (sv dA) T N Z S I R x0 z0 = some (ro, To, No, Zo, So, Io, Ro)) (V : Iv D dA s0 s T N Z I L R H locs) (hl : lv_has ls 1 [(0, .ref x0)]) (hB : cells + (Zo - Z) ≤ kc ∧ slots + (So - S) ≤ ks) : W p l e { frames := 7, cells := kc, slots := ks, locals := 149 } s m args below meth c H locs cells slots (vx_MQ below (yQ D dA s0 (rI ro) To No Zo Io L Ro) (yX D dA s0 (rI ro) To No Zo Io L Ro) args s kc ks (fun q => s0 ≤ q)) (F0 m 61 ls [.int z0]) := by
  have hx := X.1.1
  have hb := X.1.2.1
  unfold fX20_value_b61 at hf
  refine lv_if_eq (pc := 61) (tgt := 73) hx hb dX20_value_61 (by decide) (fun c1 => ?_) (fun c1 => ?_)
  · replace hf := if_t hf c1
    refine lv_aload_n (pc := 73) hx hb dX20_value_73 rfl (lv_at hl 0 rfl) ?_
    replace hf := bs hf; obtain ⟨a2, ha2, hf⟩ := hf
    refine x_ldcS (pc := 74) X 20 rfl ha2 dX20_value_74 ?_
    replace hf := tg_s hf; obtain ⟨ht11, hf⟩ := hf
    replace hf := b7s hf; obtain ⟨r3, T4, N5, Z6, S7, I8, R9, hk_10, hf⟩ := hf
    have hm_hk_10 := zX6_isValue_rX20 hk_10
    replace hf := xc_s hf; rcases hf with ⟨a12, hr_14, hf⟩ | ⟨v13, hr_14, hf⟩
    · rw [hr_14] at hk_10
      replace hf := tg_s hf; obtain ⟨ht15, hf⟩ := hf
      have hzE : Z6 = Zo := by cases hf; rfl
      have hsE : S7 = So := by cases hf; rfl
      refine y_afterX (y_runU (pc := 76) (As := [.ref a2]) (rest := []) X V (mX6_isValue_rX20 l D dA s0 (kc := Z6 - Z) (ks := S7 - S) (Nat.le_refl _) (Nat.le_refl _) hk_10) okX20 ht11 q987 q988 q989 q973 q133 q974 rfl hsX6_isValue_rX20 ⟨Nat.le_of_ble_eq_true rfl, Nat.le_of_ble_eq_true rfl⟩ rfl hl.1 rfl (Nat.le_of_ble_eq_true rfl) dX20_value_76 ⟨by show _ ≤ kc; omega, by show _ ≤ ks; omega⟩) V (fun H locs V => ?_)
      cases hf
      exact y_out X V htE okX8 ht15 (by omega) (by omega)
    · rw [hr_14] at hk_10
      have hm := zX20_value_b79 hf
      refine y_afterR (y_runU (pc := 76) (As := [.ref a2]) (rest := []) X V (mX6_isValue_rX20 l D dA s0 (kc := Z6 - Z) (ks := S7 - S) (Nat.le_refl _) (Nat.le_refl _) hk_10) okX20 ht11 q987 q988 q989 q973 q133 q974 rfl hsX6_isValue_rX20 ⟨Nat.le_of_ble_eq_true rfl, Nat.le_of_ble_eq_true rfl⟩ rfl hl.1 rfl (Nat.le_of_ble_eq_true rfl) dX20_value_76 ⟨by show _ ≤ kc; omega, by show _ ≤ ks; omega⟩) V (fun H locs V => W.eq (g2 := F0 m 79 ls [.int v13]) rfl ?_)
      exact wX20_value_b79 X hr htE hf V (lv_sub hl [0] rfl) ⟨by omega, by omega⟩
  · replace hf := if_f hf c1
    refine lv_iconst (pc := 64) (v := (ii 5)) hx hb dX20_value_64 (by decide) ?_
    refine lv_aload_n (pc := 65) hx hb dX20_value_65 rfl (lv_at hl 0 rfl) ?_
    refine lv_iconst (pc := 66) (v := (ii 0)) hx hb dX20_value_66 (by decide) ?_
    refine lv_iconst (pc := 67) (v := (ii 3)) hx hb dX20_value_67 (by decide) ?_
    replace hf := tg_s hf; obtain ⟨ht24, hf⟩ := hf
    replace hf := b7s hf; obtain ⟨r16, T17, N18, Z19, S20, I21, R22, hk_23, hf⟩ := hf
    have hm_hk_23 := zX6_number_rX20 hk_23
    replace hf := xc_s hf; rcases hf with ⟨a25, hr_27, hf⟩ | ⟨v26, hr_27, hf⟩
    · rw [hr_27] at hk_23
      replace hf := tg_s hf; obtain ⟨ht28, hf⟩ := hf
      have hzE : Z19 = Zo := by cases hf; rfl
      have hsE : S20 = So := by cases hf; rfl
      refine y_afterX (y_runU (pc := 68) (As := [.int (ii 0), .int (ii 3)]) (rest := [.int (ii 5)]) X V (mX6_number_rX20 l D dA s0 (kc := Z19 - Z) (ks := S20 - S) (Nat.le_refl _) (Nat.le_refl _) hk_23) okX20 ht24 q995 q996 q998 q946 q133 q950 rfl hsX6_number_rX20 ⟨Nat.le_of_ble_eq_true rfl, Nat.le_of_ble_eq_true rfl⟩ rfl hl.1 rfl (Nat.le_of_ble_eq_true rfl) dX20_value_68 ⟨by show _ ≤ kc; omega, by show _ ≤ ks; omega⟩) V (fun H locs V => ?_)
      cases hf
      exact y_out X V htE okX8 ht28 (by omega) (by omega)
    · rw [hr_27] at hk_23
      have hm := zX20_value_b71 hf
      refine y_afterR (y_runU (pc := 68) (As := [.int (ii 0), .int (ii 3)]) (rest := [.int (ii 5)]) X V (mX6_number_rX20 l D dA s0 (kc := Z19 - Z) (ks := S20 - S) (Nat.le_refl _) (Nat.le_refl _) hk_23) okX20 ht24 q995 q996 q998 q946 q133 q950 rfl hsX6_number_rX20 ⟨Nat.le_of_ble_eq_true rfl, Nat.le_of_ble_eq_true rfl⟩ rfl hl.1 rfl (Nat.le_of_ble_eq_true rfl) dX20_value_68 ⟨by show _ ≤ kc; omega, by show _ ≤ ks; omega⟩) V (fun H locs V => W.eq (g2 := F0 m 71 ls [.int v26, .int (ii 5)]) rfl ?_)
      exact wX20_value_b71 X hr htE hf V (lv_sub hl [] rfl) ⟨by omega, by omega⟩
set_option maxHeartbeats 400000 in
set_option maxRecDepth 100000 in
theorem zX20_value_b50 {nf : Nat} {dA : Nat → ClassId} {T : xT} {N : xT} {Z : Nat} {S : Nat} {I : xI} {R : xR}  {x0 : Nat} {z0 : Int32} {ro : (Nat ⊕ Int32)} {To : xT} {No : xT} {Zo : Nat} {So : Nat} {Io : xI} {Ro : xR}  (hf : fX20_value_b50 nf (sv dA) T N Z S I R x0 z0 = some (ro, To, No, Zo, So, Io, Ro)) : Z ≤ Zo ∧ S ≤ So := by
  unfold fX20_value_b50 at hf
  rcases (Decidable.em (z0 = (ii 0))) with c1 | c1
  · replace hf := if_t hf c1
    replace hf := bs hf; obtain ⟨a2, ha2, hf⟩ := hf
    replace hf := tg_s hf; obtain ⟨ht11, hf⟩ := hf
    replace hf := b7s hf; obtain ⟨r3, T4, N5, Z6, S7, I8, R9, hk_10, hf⟩ := hf
    have hm_hk_10 := zX6_isValue_rX20 hk_10
    replace hf := xc_s hf; rcases hf with ⟨a12, hr_14, hf⟩ | ⟨v13, hr_14, hf⟩
    · skip
      replace hf := tg_s hf; obtain ⟨ht15, hf⟩ := hf
      cases hf
      exact ⟨by omega, by omega⟩
    · skip
      have hm := zX20_value_b61 hf
      exact ⟨by omega, by omega⟩
  · replace hf := if_f hf c1
    cases hf
    exact ⟨Nat.le_refl _, Nat.le_refl _⟩
set_option maxHeartbeats 400000 in
set_option maxRecDepth 100000 in
theorem wX20_value_b50 {nf : Nat} {kc ks : Nat} {cells slots : Nat} {p : Program} {l : Launch} {e : Env} {s : State} {m : MethodId} {args : Array Value} {below : List Frame} {meth : Method} {c : Code} {D : va_G} {dA : Nat → ClassId} {s0 : Nat} {T : xT} {N : xT} {Z : Nat} {S : Nat} {I : xI} {L : xL} {R : xR} {H : Heap} {locs : List Loc} {ls : Array Slot}  {x0 : Nat} {z0 : Int32} {ro : (Nat ⊕ Int32)} {To : xT} {No : xT} {Zo : Nat} {So : Nat} {Io : xI} {Ro : xR} (X : Cx D dA s0 p m c cX20_value 1 s args RX20 meth) (hr : meth.sig.returnType = (some .int)) (htE : c.exceptionTable.toList = [])   (hf : fX20_value_b50 nf (sv dA) T N Z S I R x0 z0 = some (ro, To, No, Zo, So, Io, Ro)) (V : Iv D dA s0 s T N Z I L R H locs) (hl : lv_has ls 1 [(0, .ref x0)]) (hB : cells + (Zo - Z) ≤ kc ∧ slots + (So - S) ≤ ks) : W p l e { frames := 7, cells := kc, slots := ks, locals := 149 } s m args below meth c H locs cells slots (vx_MQ below (yQ D dA s0 (rI ro) To No Zo Io L Ro) (yX D dA s0 (rI ro) To No Zo Io L Ro) args s kc ks (fun q => s0 ≤ q)) (F0 m 50 ls [.int z0]) := by
  have hx := X.1.1
  have hb := X.1.2.1
  unfold fX20_value_b50 at hf
  refine lv_if_eq (pc := 50) (tgt := 55) hx hb dX20_value_50 (by decide) (fun c1 => ?_) (fun c1 => ?_)
  · replace hf := if_t hf c1
    refine lv_aload_n (pc := 55) hx hb dX20_value_55 rfl (lv_at hl 0 rfl) ?_
    replace hf := bs hf; obtain ⟨a2, ha2, hf⟩ := hf
    refine x_ldcS (pc := 56) X 19 rfl ha2 dX20_value_56 ?_
    replace hf := tg_s hf; obtain ⟨ht11, hf⟩ := hf
    replace hf := b7s hf; obtain ⟨r3, T4, N5, Z6, S7, I8, R9, hk_10, hf⟩ := hf
    have hm_hk_10 := zX6_isValue_rX20 hk_10
    replace hf := xc_s hf; rcases hf with ⟨a12, hr_14, hf⟩ | ⟨v13, hr_14, hf⟩
    · rw [hr_14] at hk_10
      replace hf := tg_s hf; obtain ⟨ht15, hf⟩ := hf
      have hzE : Z6 = Zo := by cases hf; rfl
      have hsE : S7 = So := by cases hf; rfl
      refine y_afterX (y_runU (pc := 58) (As := [.ref a2]) (rest := []) X V (mX6_isValue_rX20 l D dA s0 (kc := Z6 - Z) (ks := S7 - S) (Nat.le_refl _) (Nat.le_refl _) hk_10) okX20 ht11 q987 q988 q989 q973 q133 q974 rfl hsX6_isValue_rX20 ⟨Nat.le_of_ble_eq_true rfl, Nat.le_of_ble_eq_true rfl⟩ rfl hl.1 rfl (Nat.le_of_ble_eq_true rfl) dX20_value_58 ⟨by show _ ≤ kc; omega, by show _ ≤ ks; omega⟩) V (fun H locs V => ?_)
      cases hf
      exact y_out X V htE okX8 ht15 (by omega) (by omega)
    · rw [hr_14] at hk_10
      have hm := zX20_value_b61 hf
      refine y_afterR (y_runU (pc := 58) (As := [.ref a2]) (rest := []) X V (mX6_isValue_rX20 l D dA s0 (kc := Z6 - Z) (ks := S7 - S) (Nat.le_refl _) (Nat.le_refl _) hk_10) okX20 ht11 q987 q988 q989 q973 q133 q974 rfl hsX6_isValue_rX20 ⟨Nat.le_of_ble_eq_true rfl, Nat.le_of_ble_eq_true rfl⟩ rfl hl.1 rfl (Nat.le_of_ble_eq_true rfl) dX20_value_58 ⟨by show _ ≤ kc; omega, by show _ ≤ ks; omega⟩) V (fun H locs V => W.eq (g2 := F0 m 61 ls [.int v13]) rfl ?_)
      exact wX20_value_b61 X hr htE hf V (lv_sub hl [0] rfl) ⟨by omega, by omega⟩
  · replace hf := if_f hf c1
    refine lv_iconst (pc := 53) (v := (ii 4)) hx hb dX20_value_53 (by decide) ?_
    cases hf
    exact y_iret (pc := 54) X V hr (by omega) (by omega) dX20_value_54
set_option maxHeartbeats 400000 in
set_option maxRecDepth 100000 in
theorem zX20_value_b39 {nf : Nat} {dA : Nat → ClassId} {T : xT} {N : xT} {Z : Nat} {S : Nat} {I : xI} {R : xR}  {x0 : Nat} {z0 : Int32} {ro : (Nat ⊕ Int32)} {To : xT} {No : xT} {Zo : Nat} {So : Nat} {Io : xI} {Ro : xR}  (hf : fX20_value_b39 nf (sv dA) T N Z S I R x0 z0 = some (ro, To, No, Zo, So, Io, Ro)) : Z ≤ Zo ∧ S ≤ So := by
  unfold fX20_value_b39 at hf
  rcases (Decidable.em (z0 = (ii 0))) with c1 | c1
  · replace hf := if_t hf c1
    replace hf := bs hf; obtain ⟨a2, ha2, hf⟩ := hf
    replace hf := tg_s hf; obtain ⟨ht11, hf⟩ := hf
    replace hf := b7s hf; obtain ⟨r3, T4, N5, Z6, S7, I8, R9, hk_10, hf⟩ := hf
    have hm_hk_10 := zX6_isValue_rX20 hk_10
    replace hf := xc_s hf; rcases hf with ⟨a12, hr_14, hf⟩ | ⟨v13, hr_14, hf⟩
    · skip
      replace hf := tg_s hf; obtain ⟨ht15, hf⟩ := hf
      cases hf
      exact ⟨by omega, by omega⟩
    · skip
      have hm := zX20_value_b50 hf
      exact ⟨by omega, by omega⟩
  · replace hf := if_f hf c1
    cases hf
    exact ⟨Nat.le_refl _, Nat.le_refl _⟩
set_option maxHeartbeats 400000 in
set_option maxRecDepth 100000 in
theorem wX20_value_b39 {nf : Nat} {kc ks : Nat} {cells slots : Nat} {p : Program} {l : Launch} {e : Env} {s : State} {m : MethodId} {args : Array Value} {below : List Frame} {meth : Method} {c : Code} {D : va_G} {dA : Nat → ClassId} {s0 : Nat} {T : xT} {N : xT} {Z : Nat} {S : Nat} {I : xI} {L : xL} {R : xR} {H : Heap} {locs : List Loc} {ls : Array Slot}  {x0 : Nat} {z0 : Int32} {ro : (Nat ⊕ Int32)} {To : xT} {No : xT} {Zo : Nat} {So : Nat} {Io : xI} {Ro : xR} (X : Cx D dA s0 p m c cX20_value 1 s args RX20 meth) (hr : meth.sig.returnType = (some .int)) (htE : c.exceptionTable.toList = [])   (hf : fX20_value_b39 nf (sv dA) T N Z S I R x0 z0 = some (ro, To, No, Zo, So, Io, Ro)) (V : Iv D dA s0 s T N Z I L R H locs) (hl : lv_has ls 1 [(0, .ref x0)]) (hB : cells + (Zo - Z) ≤ kc ∧ slots + (So - S) ≤ ks) : W p l e { frames := 7, cells := kc, slots := ks, locals := 149 } s m args below meth c H locs cells slots (vx_MQ below (yQ D dA s0 (rI ro) To No Zo Io L Ro) (yX D dA s0 (rI ro) To No Zo Io L Ro) args s kc ks (fun q => s0 ≤ q)) (F0 m 39 ls [.int z0]) := by
  have hx := X.1.1
  have hb := X.1.2.1
  unfold fX20_value_b39 at hf
  refine lv_if_eq (pc := 39) (tgt := 44) hx hb dX20_value_39 (by decide) (fun c1 => ?_) (fun c1 => ?_)
  · replace hf := if_t hf c1
    refine lv_aload_n (pc := 44) hx hb dX20_value_44 rfl (lv_at hl 0 rfl) ?_
    replace hf := bs hf; obtain ⟨a2, ha2, hf⟩ := hf
    refine x_ldcS (pc := 45) X 18 rfl ha2 dX20_value_45 ?_
    replace hf := tg_s hf; obtain ⟨ht11, hf⟩ := hf
    replace hf := b7s hf; obtain ⟨r3, T4, N5, Z6, S7, I8, R9, hk_10, hf⟩ := hf
    have hm_hk_10 := zX6_isValue_rX20 hk_10
    replace hf := xc_s hf; rcases hf with ⟨a12, hr_14, hf⟩ | ⟨v13, hr_14, hf⟩
    · rw [hr_14] at hk_10
      replace hf := tg_s hf; obtain ⟨ht15, hf⟩ := hf
      have hzE : Z6 = Zo := by cases hf; rfl
      have hsE : S7 = So := by cases hf; rfl
      refine y_afterX (y_runU (pc := 47) (As := [.ref a2]) (rest := []) X V (mX6_isValue_rX20 l D dA s0 (kc := Z6 - Z) (ks := S7 - S) (Nat.le_refl _) (Nat.le_refl _) hk_10) okX20 ht11 q987 q988 q989 q973 q133 q974 rfl hsX6_isValue_rX20 ⟨Nat.le_of_ble_eq_true rfl, Nat.le_of_ble_eq_true rfl⟩ rfl hl.1 rfl (Nat.le_of_ble_eq_true rfl) dX20_value_47 ⟨by show _ ≤ kc; omega, by show _ ≤ ks; omega⟩) V (fun H locs V => ?_)
      cases hf
      exact y_out X V htE okX8 ht15 (by omega) (by omega)
    · rw [hr_14] at hk_10
      have hm := zX20_value_b50 hf
      refine y_afterR (y_runU (pc := 47) (As := [.ref a2]) (rest := []) X V (mX6_isValue_rX20 l D dA s0 (kc := Z6 - Z) (ks := S7 - S) (Nat.le_refl _) (Nat.le_refl _) hk_10) okX20 ht11 q987 q988 q989 q973 q133 q974 rfl hsX6_isValue_rX20 ⟨Nat.le_of_ble_eq_true rfl, Nat.le_of_ble_eq_true rfl⟩ rfl hl.1 rfl (Nat.le_of_ble_eq_true rfl) dX20_value_47 ⟨by show _ ≤ kc; omega, by show _ ≤ ks; omega⟩) V (fun H locs V => W.eq (g2 := F0 m 50 ls [.int v13]) rfl ?_)
      exact wX20_value_b50 X hr htE hf V (lv_sub hl [0] rfl) ⟨by omega, by omega⟩
  · replace hf := if_f hf c1
    refine lv_iconst (pc := 42) (v := (ii 3)) hx hb dX20_value_42 (by decide) ?_
    cases hf
    exact y_iret (pc := 43) X V hr (by omega) (by omega) dX20_value_43
set_option maxHeartbeats 400000 in
set_option maxRecDepth 100000 in
theorem zX20_value_b28 {nf : Nat} {dA : Nat → ClassId} {T : xT} {N : xT} {Z : Nat} {S : Nat} {I : xI} {R : xR}  {x0 : Nat} {z0 : Int32} {ro : (Nat ⊕ Int32)} {To : xT} {No : xT} {Zo : Nat} {So : Nat} {Io : xI} {Ro : xR}  (hf : fX20_value_b28 nf (sv dA) T N Z S I R x0 z0 = some (ro, To, No, Zo, So, Io, Ro)) : Z ≤ Zo ∧ S ≤ So := by
  unfold fX20_value_b28 at hf
  rcases (Decidable.em (z0 = (ii 0))) with c1 | c1
  · replace hf := if_t hf c1
    replace hf := bs hf; obtain ⟨a2, ha2, hf⟩ := hf
    replace hf := tg_s hf; obtain ⟨ht11, hf⟩ := hf
    replace hf := b7s hf; obtain ⟨r3, T4, N5, Z6, S7, I8, R9, hk_10, hf⟩ := hf
    have hm_hk_10 := zX6_isValue_rX20 hk_10
    replace hf := xc_s hf; rcases hf with ⟨a12, hr_14, hf⟩ | ⟨v13, hr_14, hf⟩
    · skip
      replace hf := tg_s hf; obtain ⟨ht15, hf⟩ := hf
      cases hf
      exact ⟨by omega, by omega⟩
    · skip
      have hm := zX20_value_b39 hf
      exact ⟨by omega, by omega⟩
  · replace hf := if_f hf c1
    cases hf
    exact ⟨Nat.le_refl _, Nat.le_refl _⟩
set_option maxHeartbeats 400000 in
set_option maxRecDepth 100000 in
theorem wX20_value_b28 {nf : Nat} {kc ks : Nat} {cells slots : Nat} {p : Program} {l : Launch} {e : Env} {s : State} {m : MethodId} {args : Array Value} {below : List Frame} {meth : Method} {c : Code} {D : va_G} {dA : Nat → ClassId} {s0 : Nat} {T : xT} {N : xT} {Z : Nat} {S : Nat} {I : xI} {L : xL} {R : xR} {H : Heap} {locs : List Loc} {ls : Array Slot}  {x0 : Nat} {z0 : Int32} {ro : (Nat ⊕ Int32)} {To : xT} {No : xT} {Zo : Nat} {So : Nat} {Io : xI} {Ro : xR} (X : Cx D dA s0 p m c cX20_value 1 s args RX20 meth) (hr : meth.sig.returnType = (some .int)) (htE : c.exceptionTable.toList = [])   (hf : fX20_value_b28 nf (sv dA) T N Z S I R x0 z0 = some (ro, To, No, Zo, So, Io, Ro)) (V : Iv D dA s0 s T N Z I L R H locs) (hl : lv_has ls 1 [(0, .ref x0)]) (hB : cells + (Zo - Z) ≤ kc ∧ slots + (So - S) ≤ ks) : W p l e { frames := 7, cells := kc, slots := ks, locals := 149 } s m args below meth c H locs cells slots (vx_MQ below (yQ D dA s0 (rI ro) To No Zo Io L Ro) (yX D dA s0 (rI ro) To No Zo Io L Ro) args s kc ks (fun q => s0 ≤ q)) (F0 m 28 ls [.int z0]) := by
  have hx := X.1.1
  have hb := X.1.2.1
  unfold fX20_value_b28 at hf
  refine lv_if_eq (pc := 28) (tgt := 33) hx hb dX20_value_28 (by decide) (fun c1 => ?_) (fun c1 => ?_)
  · replace hf := if_t hf c1
    refine lv_aload_n (pc := 33) hx hb dX20_value_33 rfl (lv_at hl 0 rfl) ?_
    replace hf := bs hf; obtain ⟨a2, ha2, hf⟩ := hf
    refine x_ldcS (pc := 34) X 17 rfl ha2 dX20_value_34 ?_
    replace hf := tg_s hf; obtain ⟨ht11, hf⟩ := hf
    replace hf := b7s hf; obtain ⟨r3, T4, N5, Z6, S7, I8, R9, hk_10, hf⟩ := hf
    have hm_hk_10 := zX6_isValue_rX20 hk_10
    replace hf := xc_s hf; rcases hf with ⟨a12, hr_14, hf⟩ | ⟨v13, hr_14, hf⟩
    · rw [hr_14] at hk_10
      replace hf := tg_s hf; obtain ⟨ht15, hf⟩ := hf
      have hzE : Z6 = Zo := by cases hf; rfl
      have hsE : S7 = So := by cases hf; rfl
      refine y_afterX (y_runU (pc := 36) (As := [.ref a2]) (rest := []) X V (mX6_isValue_rX20 l D dA s0 (kc := Z6 - Z) (ks := S7 - S) (Nat.le_refl _) (Nat.le_refl _) hk_10) okX20 ht11 q987 q988 q989 q973 q133 q974 rfl hsX6_isValue_rX20 ⟨Nat.le_of_ble_eq_true rfl, Nat.le_of_ble_eq_true rfl⟩ rfl hl.1 rfl (Nat.le_of_ble_eq_true rfl) dX20_value_36 ⟨by show _ ≤ kc; omega, by show _ ≤ ks; omega⟩) V (fun H locs V => ?_)
      cases hf
      exact y_out X V htE okX8 ht15 (by omega) (by omega)
    · rw [hr_14] at hk_10
      have hm := zX20_value_b39 hf
      refine y_afterR (y_runU (pc := 36) (As := [.ref a2]) (rest := []) X V (mX6_isValue_rX20 l D dA s0 (kc := Z6 - Z) (ks := S7 - S) (Nat.le_refl _) (Nat.le_refl _) hk_10) okX20 ht11 q987 q988 q989 q973 q133 q974 rfl hsX6_isValue_rX20 ⟨Nat.le_of_ble_eq_true rfl, Nat.le_of_ble_eq_true rfl⟩ rfl hl.1 rfl (Nat.le_of_ble_eq_true rfl) dX20_value_36 ⟨by show _ ≤ kc; omega, by show _ ≤ ks; omega⟩) V (fun H locs V => W.eq (g2 := F0 m 39 ls [.int v13]) rfl ?_)
      exact wX20_value_b39 X hr htE hf V (lv_sub hl [0] rfl) ⟨by omega, by omega⟩
  · replace hf := if_f hf c1
    refine lv_iconst (pc := 31) (v := (ii 2)) hx hb dX20_value_31 (by decide) ?_
    cases hf
    exact y_iret (pc := 32) X V hr (by omega) (by omega) dX20_value_32
set_option maxHeartbeats 400000 in
set_option maxRecDepth 100000 in
theorem zX20_value_b17 {nf : Nat} {dA : Nat → ClassId} {T : xT} {N : xT} {Z : Nat} {S : Nat} {I : xI} {R : xR}  {x0 : Nat} {z0 : Int32} {ro : (Nat ⊕ Int32)} {To : xT} {No : xT} {Zo : Nat} {So : Nat} {Io : xI} {Ro : xR}  (hf : fX20_value_b17 nf (sv dA) T N Z S I R x0 z0 = some (ro, To, No, Zo, So, Io, Ro)) : Z ≤ Zo ∧ S ≤ So := by
  unfold fX20_value_b17 at hf
  rcases (Decidable.em (z0 = (ii 0))) with c1 | c1
  · replace hf := if_t hf c1
    replace hf := bs hf; obtain ⟨a2, ha2, hf⟩ := hf
    replace hf := tg_s hf; obtain ⟨ht11, hf⟩ := hf
    replace hf := b7s hf; obtain ⟨r3, T4, N5, Z6, S7, I8, R9, hk_10, hf⟩ := hf
    have hm_hk_10 := zX6_isValue_rX20 hk_10
    replace hf := xc_s hf; rcases hf with ⟨a12, hr_14, hf⟩ | ⟨v13, hr_14, hf⟩
    · skip
      replace hf := tg_s hf; obtain ⟨ht15, hf⟩ := hf
      cases hf
      exact ⟨by omega, by omega⟩
    · skip
      have hm := zX20_value_b28 hf
      exact ⟨by omega, by omega⟩
  · replace hf := if_f hf c1
    cases hf
    exact ⟨Nat.le_refl _, Nat.le_refl _⟩
set_option maxHeartbeats 400000 in
set_option maxRecDepth 100000 in
theorem wX20_value_b17 {nf : Nat} {kc ks : Nat} {cells slots : Nat} {p : Program} {l : Launch} {e : Env} {s : State} {m : MethodId} {args : Array Value} {below : List Frame} {meth : Method} {c : Code} {D : va_G} {dA : Nat → ClassId} {s0 : Nat} {T : xT} {N : xT} {Z : Nat} {S : Nat} {I : xI} {L : xL} {R : xR} {H : Heap} {locs : List Loc} {ls : Array Slot}  {x0 : Nat} {z0 : Int32} {ro : (Nat ⊕ Int32)} {To : xT} {No : xT} {Zo : Nat} {So : Nat} {Io : xI} {Ro : xR} (X : Cx D dA s0 p m c cX20_value 1 s args RX20 meth) (hr : meth.sig.returnType = (some .int)) (htE : c.exceptionTable.toList = [])   (hf : fX20_value_b17 nf (sv dA) T N Z S I R x0 z0 = some (ro, To, No, Zo, So, Io, Ro)) (V : Iv D dA s0 s T N Z I L R H locs) (hl : lv_has ls 1 [(0, .ref x0)]) (hB : cells + (Zo - Z) ≤ kc ∧ slots + (So - S) ≤ ks) : W p l e { frames := 7, cells := kc, slots := ks, locals := 149 } s m args below meth c H locs cells slots (vx_MQ below (yQ D dA s0 (rI ro) To No Zo Io L Ro) (yX D dA s0 (rI ro) To No Zo Io L Ro) args s kc ks (fun q => s0 ≤ q)) (F0 m 17 ls [.int z0]) := by
  have hx := X.1.1
  have hb := X.1.2.1
  unfold fX20_value_b17 at hf
  refine lv_if_eq (pc := 17) (tgt := 22) hx hb dX20_value_17 (by decide) (fun c1 => ?_) (fun c1 => ?_)
  · replace hf := if_t hf c1
    refine lv_aload_n (pc := 22) hx hb dX20_value_22 rfl (lv_at hl 0 rfl) ?_
    replace hf := bs hf; obtain ⟨a2, ha2, hf⟩ := hf
    refine x_ldcS (pc := 23) X 16 rfl ha2 dX20_value_23 ?_
    replace hf := tg_s hf; obtain ⟨ht11, hf⟩ := hf
    replace hf := b7s hf; obtain ⟨r3, T4, N5, Z6, S7, I8, R9, hk_10, hf⟩ := hf
    have hm_hk_10 := zX6_isValue_rX20 hk_10
    replace hf := xc_s hf; rcases hf with ⟨a12, hr_14, hf⟩ | ⟨v13, hr_14, hf⟩
    · rw [hr_14] at hk_10
      replace hf := tg_s hf; obtain ⟨ht15, hf⟩ := hf
      have hzE : Z6 = Zo := by cases hf; rfl
      have hsE : S7 = So := by cases hf; rfl
      refine y_afterX (y_runU (pc := 25) (As := [.ref a2]) (rest := []) X V (mX6_isValue_rX20 l D dA s0 (kc := Z6 - Z) (ks := S7 - S) (Nat.le_refl _) (Nat.le_refl _) hk_10) okX20 ht11 q987 q988 q989 q973 q133 q974 rfl hsX6_isValue_rX20 ⟨Nat.le_of_ble_eq_true rfl, Nat.le_of_ble_eq_true rfl⟩ rfl hl.1 rfl (Nat.le_of_ble_eq_true rfl) dX20_value_25 ⟨by show _ ≤ kc; omega, by show _ ≤ ks; omega⟩) V (fun H locs V => ?_)
      cases hf
      exact y_out X V htE okX8 ht15 (by omega) (by omega)
    · rw [hr_14] at hk_10
      have hm := zX20_value_b28 hf
      refine y_afterR (y_runU (pc := 25) (As := [.ref a2]) (rest := []) X V (mX6_isValue_rX20 l D dA s0 (kc := Z6 - Z) (ks := S7 - S) (Nat.le_refl _) (Nat.le_refl _) hk_10) okX20 ht11 q987 q988 q989 q973 q133 q974 rfl hsX6_isValue_rX20 ⟨Nat.le_of_ble_eq_true rfl, Nat.le_of_ble_eq_true rfl⟩ rfl hl.1 rfl (Nat.le_of_ble_eq_true rfl) dX20_value_25 ⟨by show _ ≤ kc; omega, by show _ ≤ ks; omega⟩) V (fun H locs V => W.eq (g2 := F0 m 28 ls [.int v13]) rfl ?_)
      exact wX20_value_b28 X hr htE hf V (lv_sub hl [0] rfl) ⟨by omega, by omega⟩
  · replace hf := if_f hf c1
    refine lv_iconst (pc := 20) (v := (ii 1)) hx hb dX20_value_20 (by decide) ?_
    cases hf
    exact y_iret (pc := 21) X V hr (by omega) (by omega) dX20_value_21
set_option maxHeartbeats 400000 in
set_option maxRecDepth 100000 in
theorem zX20_value_b6 {nf : Nat} {dA : Nat → ClassId} {T : xT} {N : xT} {Z : Nat} {S : Nat} {I : xI} {R : xR}  {x0 : Nat} {z0 : Int32} {ro : (Nat ⊕ Int32)} {To : xT} {No : xT} {Zo : Nat} {So : Nat} {Io : xI} {Ro : xR}  (hf : fX20_value_b6 nf (sv dA) T N Z S I R x0 z0 = some (ro, To, No, Zo, So, Io, Ro)) : Z ≤ Zo ∧ S ≤ So := by
  unfold fX20_value_b6 at hf
  rcases (Decidable.em (z0 = (ii 0))) with c1 | c1
  · replace hf := if_t hf c1
    replace hf := bs hf; obtain ⟨a2, ha2, hf⟩ := hf
    replace hf := tg_s hf; obtain ⟨ht11, hf⟩ := hf
    replace hf := b7s hf; obtain ⟨r3, T4, N5, Z6, S7, I8, R9, hk_10, hf⟩ := hf
    have hm_hk_10 := zX6_isValue_rX20 hk_10
    replace hf := xc_s hf; rcases hf with ⟨a12, hr_14, hf⟩ | ⟨v13, hr_14, hf⟩
    · skip
      replace hf := tg_s hf; obtain ⟨ht15, hf⟩ := hf
      cases hf
      exact ⟨by omega, by omega⟩
    · skip
      have hm := zX20_value_b17 hf
      exact ⟨by omega, by omega⟩
  · replace hf := if_f hf c1
    cases hf
    exact ⟨Nat.le_refl _, Nat.le_refl _⟩
set_option maxHeartbeats 400000 in
set_option maxRecDepth 100000 in
theorem wX20_value_b6 {nf : Nat} {kc ks : Nat} {cells slots : Nat} {p : Program} {l : Launch} {e : Env} {s : State} {m : MethodId} {args : Array Value} {below : List Frame} {meth : Method} {c : Code} {D : va_G} {dA : Nat → ClassId} {s0 : Nat} {T : xT} {N : xT} {Z : Nat} {S : Nat} {I : xI} {L : xL} {R : xR} {H : Heap} {locs : List Loc} {ls : Array Slot}  {x0 : Nat} {z0 : Int32} {ro : (Nat ⊕ Int32)} {To : xT} {No : xT} {Zo : Nat} {So : Nat} {Io : xI} {Ro : xR} (X : Cx D dA s0 p m c cX20_value 1 s args RX20 meth) (hr : meth.sig.returnType = (some .int)) (htE : c.exceptionTable.toList = [])   (hf : fX20_value_b6 nf (sv dA) T N Z S I R x0 z0 = some (ro, To, No, Zo, So, Io, Ro)) (V : Iv D dA s0 s T N Z I L R H locs) (hl : lv_has ls 1 [(0, .ref x0)]) (hB : cells + (Zo - Z) ≤ kc ∧ slots + (So - S) ≤ ks) : W p l e { frames := 7, cells := kc, slots := ks, locals := 149 } s m args below meth c H locs cells slots (vx_MQ below (yQ D dA s0 (rI ro) To No Zo Io L Ro) (yX D dA s0 (rI ro) To No Zo Io L Ro) args s kc ks (fun q => s0 ≤ q)) (F0 m 6 ls [.int z0]) := by
  have hx := X.1.1
  have hb := X.1.2.1
  unfold fX20_value_b6 at hf
  refine lv_if_eq (pc := 6) (tgt := 11) hx hb dX20_value_6 (by decide) (fun c1 => ?_) (fun c1 => ?_)
  · replace hf := if_t hf c1
    refine lv_aload_n (pc := 11) hx hb dX20_value_11 rfl (lv_at hl 0 rfl) ?_
    replace hf := bs hf; obtain ⟨a2, ha2, hf⟩ := hf
    refine x_ldcS (pc := 12) X 15 rfl ha2 dX20_value_12 ?_
    replace hf := tg_s hf; obtain ⟨ht11, hf⟩ := hf
    replace hf := b7s hf; obtain ⟨r3, T4, N5, Z6, S7, I8, R9, hk_10, hf⟩ := hf
    have hm_hk_10 := zX6_isValue_rX20 hk_10
    replace hf := xc_s hf; rcases hf with ⟨a12, hr_14, hf⟩ | ⟨v13, hr_14, hf⟩
    · rw [hr_14] at hk_10
      replace hf := tg_s hf; obtain ⟨ht15, hf⟩ := hf
      have hzE : Z6 = Zo := by cases hf; rfl
      have hsE : S7 = So := by cases hf; rfl
      refine y_afterX (y_runU (pc := 14) (As := [.ref a2]) (rest := []) X V (mX6_isValue_rX20 l D dA s0 (kc := Z6 - Z) (ks := S7 - S) (Nat.le_refl _) (Nat.le_refl _) hk_10) okX20 ht11 q987 q988 q989 q973 q133 q974 rfl hsX6_isValue_rX20 ⟨Nat.le_of_ble_eq_true rfl, Nat.le_of_ble_eq_true rfl⟩ rfl hl.1 rfl (Nat.le_of_ble_eq_true rfl) dX20_value_14 ⟨by show _ ≤ kc; omega, by show _ ≤ ks; omega⟩) V (fun H locs V => ?_)
      cases hf
      exact y_out X V htE okX8 ht15 (by omega) (by omega)
    · rw [hr_14] at hk_10
      have hm := zX20_value_b17 hf
      refine y_afterR (y_runU (pc := 14) (As := [.ref a2]) (rest := []) X V (mX6_isValue_rX20 l D dA s0 (kc := Z6 - Z) (ks := S7 - S) (Nat.le_refl _) (Nat.le_refl _) hk_10) okX20 ht11 q987 q988 q989 q973 q133 q974 rfl hsX6_isValue_rX20 ⟨Nat.le_of_ble_eq_true rfl, Nat.le_of_ble_eq_true rfl⟩ rfl hl.1 rfl (Nat.le_of_ble_eq_true rfl) dX20_value_14 ⟨by show _ ≤ kc; omega, by show _ ≤ ks; omega⟩) V (fun H locs V => W.eq (g2 := F0 m 17 ls [.int v13]) rfl ?_)
      exact wX20_value_b17 X hr htE hf V (lv_sub hl [0] rfl) ⟨by omega, by omega⟩
  · replace hf := if_f hf c1
    refine lv_iconst (pc := 9) (v := (ii 0)) hx hb dX20_value_9 (by decide) ?_
    cases hf
    exact y_iret (pc := 10) X V hr (by omega) (by omega) dX20_value_10
set_option maxHeartbeats 400000 in
set_option maxRecDepth 100000 in
theorem zX20_value {nf : Nat} {dA : Nat → ClassId} {T : xT} {N : xT} {Z : Nat} {S : Nat} {I : xI} {R : xR} {x0 : Nat} {ro : (Nat ⊕ Int32)} {To : xT} {No : xT} {Zo : Nat} {So : Nat} {Io : xI} {Ro : xR} (hf : fX20_value nf (sv dA) T N Z S I R x0 = some (ro, To, No, Zo, So, Io, Ro)) : Z ≤ Zo ∧ S ≤ So := by
  unfold fX20_value at hf
  replace hf := bs hf; obtain ⟨a1, ha1, hf⟩ := hf
  replace hf := tg_s hf; obtain ⟨ht10, hf⟩ := hf
  replace hf := b7s hf; obtain ⟨r2, T3, N4, Z5, S6, I7, R8, hk_9, hf⟩ := hf
  have hm_hk_9 := zX6_isValue_rX20 hk_9
  replace hf := xc_s hf; rcases hf with ⟨a11, hr_13, hf⟩ | ⟨v12, hr_13, hf⟩
  · skip
    replace hf := tg_s hf; obtain ⟨ht14, hf⟩ := hf
    cases hf
    exact ⟨by omega, by omega⟩
  · skip
    have hm := zX20_value_b6 hf
    exact ⟨by omega, by omega⟩
set_option maxHeartbeats 400000 in
set_option maxRecDepth 100000 in
theorem wX20_value_e {nf : Nat} {kc ks : Nat} {cells slots : Nat} {p : Program} {l : Launch} {e : Env} {s : State} {m : MethodId} {args : Array Value} {below : List Frame} {meth : Method} {c : Code} {D : va_G} {dA : Nat → ClassId} {s0 : Nat} {T : xT} {N : xT} {Z : Nat} {S : Nat} {I : xI} {L : xL} {R : xR} {H : Heap} {locs : List Loc} {ls : Array Slot} {x0 : Nat} {ro : (Nat ⊕ Int32)} {To : xT} {No : xT} {Zo : Nat} {So : Nat} {Io : xI} {Ro : xR} (X : Cx D dA s0 p m c cX20_value 1 s args RX20 meth) (hr : meth.sig.returnType = (some .int)) (htE : c.exceptionTable.toList = []) (hf : fX20_value nf (sv dA) T N Z S I R x0 = some (ro, To, No, Zo, So, Io, Ro)) (V : Iv D dA s0 s T N Z I L R H locs) (hl : lv_has ls 1 [(0, .ref x0)]) (hB : cells + (Zo - Z) ≤ kc ∧ slots + (So - S) ≤ ks) : W p l e { frames := 7, cells := kc, slots := ks, locals := 149 } s m args below meth c H locs cells slots (vx_MQ below (yQ D dA s0 (rI ro) To No Zo Io L Ro) (yX D dA s0 (rI ro) To No Zo Io L Ro) args s kc ks (fun q => s0 ≤ q)) (F0 m 0 ls []) := by
  have hx := X.1.1
  have hb := X.1.2.1
  unfold fX20_value at hf
  refine lv_aload_n (pc := 0) hx hb dX20_value_0 rfl (lv_at hl 0 rfl) ?_
  replace hf := bs hf; obtain ⟨a1, ha1, hf⟩ := hf
  refine x_ldcS (pc := 1) X 14 rfl ha1 dX20_value_1 ?_
  replace hf := tg_s hf; obtain ⟨ht10, hf⟩ := hf
  replace hf := b7s hf; obtain ⟨r2, T3, N4, Z5, S6, I7, R8, hk_9, hf⟩ := hf
  have hm_hk_9 := zX6_isValue_rX20 hk_9
  replace hf := xc_s hf; rcases hf with ⟨a11, hr_13, hf⟩ | ⟨v12, hr_13, hf⟩
  · rw [hr_13] at hk_9
    replace hf := tg_s hf; obtain ⟨ht14, hf⟩ := hf
    have hzE : Z5 = Zo := by cases hf; rfl
    have hsE : S6 = So := by cases hf; rfl
    refine y_afterX (y_runU (pc := 3) (As := [.ref a1]) (rest := []) X V (mX6_isValue_rX20 l D dA s0 (kc := Z5 - Z) (ks := S6 - S) (Nat.le_refl _) (Nat.le_refl _) hk_9) okX20 ht10 q987 q988 q989 q973 q133 q974 rfl hsX6_isValue_rX20 ⟨Nat.le_of_ble_eq_true rfl, Nat.le_of_ble_eq_true rfl⟩ rfl hl.1 rfl (Nat.le_of_ble_eq_true rfl) dX20_value_3 ⟨by show _ ≤ kc; omega, by show _ ≤ ks; omega⟩) V (fun H locs V => ?_)
    cases hf
    exact y_out X V htE okX8 ht14 (by omega) (by omega)
  · rw [hr_13] at hk_9
    have hm := zX20_value_b6 hf
    refine y_afterR (y_runU (pc := 3) (As := [.ref a1]) (rest := []) X V (mX6_isValue_rX20 l D dA s0 (kc := Z5 - Z) (ks := S6 - S) (Nat.le_refl _) (Nat.le_refl _) hk_9) okX20 ht10 q987 q988 q989 q973 q133 q974 rfl hsX6_isValue_rX20 ⟨Nat.le_of_ble_eq_true rfl, Nat.le_of_ble_eq_true rfl⟩ rfl hl.1 rfl (Nat.le_of_ble_eq_true rfl) dX20_value_3 ⟨by show _ ≤ kc; omega, by show _ ≤ ks; omega⟩) V (fun H locs V => W.eq (g2 := F0 m 6 ls [.int v12]) rfl ?_)
    exact wX20_value_b6 X hr htE hf V (lv_sub hl [0] rfl) ⟨by omega, by omega⟩
theorem mX20_value {nf : Nat} (l : Launch) (D : va_G) (dA : Nat → ClassId) (s0 : Nat) {kc ks : Nat} {T : xT} {N : xT} {Z : Nat} {S : Nat} {I : xI} {L : xL} {R : xR} {x0 : Nat} {ro : (Nat ⊕ Int32)} {To : xT} {No : xT} {Zo : Nat} {So : Nat} {Io : xI} {Ro : xR} (hZ : Zo - Z ≤ kc) (hS : So - S ≤ ks) (hf : fX20_value nf (sv dA) T N Z S I R x0 = some (ro, To, No, Zo, So, Io, Ro)) : YMet l D dA s0 yX20_value (ws_ yX20_value cX20_value 1 ((some .int))) (7) (149) [.ref x0] T N Z I L R (rI ro) To No Zo Io L Ro kc ks :=
  y_start (own := RX20) rfl (by decide) (Nat.le_of_ble_eq_true rfl) (lv := [(0, .ref x0)]) rfl (fun p e s m below meth c ls X hr htE V hl => wX20_value_e X hr htE hf V hl ⟨by omega, by omega⟩)
