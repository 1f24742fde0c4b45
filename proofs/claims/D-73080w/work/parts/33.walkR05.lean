set_option maxHeartbeats 400000 in
set_option maxRecDepth 100000 in
theorem zX6_positive_rX20_b105 {nf : Nat} {rc : (Nat → Option Nat) → xT → xT → Nat → Nat → xI → xL → xR → Nat → Option ((Nat ⊕ Nat) × xT × xT × Nat × Nat × xI × xR)} {dA : Nat → ClassId} {T : xT} {N : xT} {Z : Nat} {S : Nat} {I : xI} {L : xL} {R : xR}  {z0 : Nat} {z1 : Nat} {z2 : Int32} {z3 : Nat} {z4 : Nat} {ro : (Nat ⊕ Nat)} {To : xT} {No : xT} {Zo : Nat} {So : Nat} {Io : xI} {Ro : xR} (hrz : Mon_X6_test_rX20 rc)  (hf : fX6_positive_rX20_b105 nf rc (sv dA) T N Z S I L R z0 z1 z2 z3 z4 = some (ro, To, No, Zo, So, Io, Ro)) : Z ≤ Zo ∧ S ≤ So := by
  unfold fX6_positive_rX20_b105 at hf
  replace hf := b2s hf; obtain ⟨I1, R2, hk_3, hf⟩ := hf
  cases hf
  exact ⟨Nat.le_refl _, Nat.le_refl _⟩
set_option maxHeartbeats 400000 in
set_option maxRecDepth 100000 in
theorem wX6_positive_rX20_b105 {nf : Nat} {fd ld : Nat} {rc : (Nat → Option Nat) → xT → xT → Nat → Nat → xI → xL → xR → Nat → Option ((Nat ⊕ Nat) × xT × xT × Nat × Nat × xI × xR)} {kc ks : Nat} {cells slots : Nat} {p : Program} {l : Launch} {e : Env} {s : State} {m : MethodId} {args : Array Value} {below : List Frame} {meth : Method} {c : Code} {D : va_G} {dA : Nat → ClassId} {s0 : Nat} {T : xT} {N : xT} {Z : Nat} {S : Nat} {I : xI} {L : xL} {R : xR} {H : Heap} {locs : List Loc} {ls : Array Slot}  {z0 : Nat} {z1 : Nat} {z2 : Int32} {z3 : Nat} {z4 : Nat} {ro : (Nat ⊕ Nat)} {To : xT} {No : xT} {Zo : Nat} {So : Nat} {Io : xI} {Ro : xR} (X : Cx D dA s0 p m c cX6_positive 3 s args RX6 meth) (hr : meth.sig.returnType = (some (.object "LostLanes$Test"))) (htE : c.exceptionTable.toList = []) (hrc : Con_X6_test_rX20 l D dA s0 fd ld rc) (hrz : Mon_X6_test_rX20 rc)    (hf : fX6_positive_rX20_b105 nf rc (sv dA) T N Z S I L R z0 z1 z2 z3 z4 = some (ro, To, No, Zo, So, Io, Ro)) (V : Iv D dA s0 s T N Z I L R H locs) (hl : lv_has ls 3 []) (hB : cells + (Zo - Z) ≤ kc ∧ slots + (So - S) ≤ ks) : W p l e { frames := fd + 121, cells := kc, slots := ks, locals := ld + 2590 } s m args below meth c H locs cells slots (vx_MQ below (yQ D dA s0 (rA_ ro) To No Zo Io L Ro) (yX D dA s0 (rA_ ro) To No Zo Io L Ro) args s kc ks (fun q => s0 ≤ q)) (F0 m 105 ls [.ref z4, .ref z3, .int z2, .ref z1, .ref z0]) := by
  have hx := X.1.1
  have hb := X.1.2.1
  unfold fX6_positive_rX20_b105 at hf
  replace hf := b2s hf; obtain ⟨I1, R2, hk_3, hf⟩ := hf
  refine x_callI0 (pc := 105) (As := [.int z2, .ref z3, .ref z4]) (rest := [.ref z0]) X V (mX15_init l D dA s0 hk_3) q1069 q1070 q145 q1071 rfl hsX15_init ⟨by dsimp only; omega, by dsimp only; omega⟩ rfl hl.1 rfl (Nat.le_of_ble_eq_true rfl) dX6_positive_105 ⟨by show cells ≤ kc; omega, by show slots ≤ ks; omega⟩ (fun H locs V => W.eq (g2 := F0 m 108 ls [.ref z0]) rfl ?_)
  cases hf
  exact y_aret (pc := 108) X V hr (by omega) (by omega) (Or.inl ⟨_, rfl⟩) dX6_positive_108
set_option maxHeartbeats 400000 in
set_option maxRecDepth 100000 in
theorem zX6_positive_rX20_b98 {nf : Nat} {rc : (Nat → Option Nat) → xT → xT → Nat → Nat → xI → xL → xR → Nat → Option ((Nat ⊕ Nat) × xT × xT × Nat × Nat × xI × xR)} {dA : Nat → ClassId} {T : xT} {N : xT} {Z : Nat} {S : Nat} {I : xI} {L : xL} {R : xR}  {x0 : Nat} {x1 : Nat} {x2 : Int32} {z0 : Nat} {ro : (Nat ⊕ Nat)} {To : xT} {No : xT} {Zo : Nat} {So : Nat} {Io : xI} {Ro : xR} (hrz : Mon_X6_test_rX20 rc)  (hf : fX6_positive_rX20_b98 nf rc (sv dA) T N Z S I L R x0 x1 x2 z0 = some (ro, To, No, Zo, So, Io, Ro)) : Z ≤ Zo ∧ S ≤ So := by
  unfold fX6_positive_rX20_b98 at hf
  replace hf := tg_s hf; obtain ⟨ht9, hf⟩ := hf
  replace hf := b7s hf; obtain ⟨r1, T2, N3, Z4, S5, I6, R7, hk_8, hf⟩ := hf
  have hm_hk_8 := zX6_sum_rX20 12 hk_8
  replace hf := xc_s hf; rcases hf with ⟨a10, hr_12, hf⟩ | ⟨v11, hr_12, hf⟩
  · skip
    replace hf := tg_s hf; obtain ⟨ht13, hf⟩ := hf
    cases hf
    exact ⟨by omega, by omega⟩
  · skip
    have hm := zX6_positive_rX20_b105 hrz hf
    exact ⟨by omega, by omega⟩
set_option maxHeartbeats 400000 in
set_option maxRecDepth 100000 in
theorem wX6_positive_rX20_b98 {nf : Nat} {fd ld : Nat} {rc : (Nat → Option Nat) → xT → xT → Nat → Nat → xI → xL → xR → Nat → Option ((Nat ⊕ Nat) × xT × xT × Nat × Nat × xI × xR)} {kc ks : Nat} {cells slots : Nat} {p : Program} {l : Launch} {e : Env} {s : State} {m : MethodId} {args : Array Value} {below : List Frame} {meth : Method} {c : Code} {D : va_G} {dA : Nat → ClassId} {s0 : Nat} {T : xT} {N : xT} {Z : Nat} {S : Nat} {I : xI} {L : xL} {R : xR} {H : Heap} {locs : List Loc} {ls : Array Slot}  {x0 : Nat} {x1 : Nat} {x2 : Int32} {z0 : Nat} {ro : (Nat ⊕ Nat)} {To : xT} {No : xT} {Zo : Nat} {So : Nat} {Io : xI} {Ro : xR} (X : Cx D dA s0 p m c cX6_positive 3 s args RX6 meth) (hr : meth.sig.returnType = (some (.object "LostLanes$Test"))) (htE : c.exceptionTable.toList = []) (hrc : Con_X6_test_rX20 l D dA s0 fd ld rc) (hrz : Mon_X6_test_rX20 rc)    (hf : fX6_positive_rX20_b98 nf rc (sv dA) T N Z S I L R x0 x1 x2 z0 = some (ro, To, No, Zo, So, Io, Ro)) (V : Iv D dA s0 s T N Z I L R H locs) (hl : lv_has ls 3 [(0, .ref x0), (1, .ref x1), (2, .int x2)]) (hB : cells + (Zo - Z) ≤ kc ∧ slots + (So - S) ≤ ks) : W p l e { frames := fd + 121, cells := kc, slots := ks, locals := ld + 2590 } s m args below meth c H locs cells slots (vx_MQ below (yQ D dA s0 (rA_ ro) To No Zo Io L Ro) (yX D dA s0 (rA_ ro) To No Zo Io L Ro) args s kc ks (fun q => s0 ≤ q)) (F0 m 98 ls [.ref z0]) := by
  have hx := X.1.1
  have hb := X.1.2.1
  unfold fX6_positive_rX20_b98 at hf
  refine lv_dup (pc := 98) hx hb dX6_positive_98 rfl ?_
  refine lv_iload_n (pc := 99) hx hb dX6_positive_99 rfl (lv_at hl 2 rfl) ?_
  refine lv_aload_n (pc := 100) hx hb dX6_positive_100 rfl (lv_at hl 1 rfl) ?_
  refine lv_aload_n (pc := 101) hx hb dX6_positive_101 rfl (lv_at hl 0 rfl) ?_
  replace hf := tg_s hf; obtain ⟨ht9, hf⟩ := hf
  replace hf := b7s hf; obtain ⟨r1, T2, N3, Z4, S5, I6, R7, hk_8, hf⟩ := hf
  have hm_hk_8 := zX6_sum_rX20 12 hk_8
  replace hf := xc_s hf; rcases hf with ⟨a10, hr_12, hf⟩ | ⟨v11, hr_12, hf⟩
  · rw [hr_12] at hk_8
    replace hf := tg_s hf; obtain ⟨ht13, hf⟩ := hf
    have hzE : Z4 = Zo := by cases hf; rfl
    have hsE : S5 = So := by cases hf; rfl
    refine y_afterX (y_runU (pc := 102) (As := []) (rest := [.ref x1, .int x2, .ref z0, .ref z0]) X V (mX6_sum_rX20 l D dA s0 12 (kc := Z4 - Z) (ks := S5 - S) (Nat.le_refl _) (Nat.le_refl _) hk_8) okX20 ht9 q923 q2225 q2227 q901 q133 q902 rfl hsX6_sum_rX20 ⟨by dsimp only; omega, by dsimp only; omega⟩ rfl hl.1 rfl (Nat.le_of_ble_eq_true rfl) dX6_positive_102 ⟨by show _ ≤ kc; omega, by show _ ≤ ks; omega⟩) V (fun H locs V => ?_)
    cases hf
    exact y_out X V htE okX8 ht13 (by omega) (by omega)
  · rw [hr_12] at hk_8
    have hm := zX6_positive_rX20_b105 hrz hf
    refine y_afterR (y_runU (pc := 102) (As := []) (rest := [.ref x1, .int x2, .ref z0, .ref z0]) X V (mX6_sum_rX20 l D dA s0 12 (kc := Z4 - Z) (ks := S5 - S) (Nat.le_refl _) (Nat.le_refl _) hk_8) okX20 ht9 q923 q2225 q2227 q901 q133 q902 rfl hsX6_sum_rX20 ⟨by dsimp only; omega, by dsimp only; omega⟩ rfl hl.1 rfl (Nat.le_of_ble_eq_true rfl) dX6_positive_102 ⟨by show _ ≤ kc; omega, by show _ ≤ ks; omega⟩) V (fun H locs V => W.eq (g2 := F0 m 105 ls [.ref v11, .ref x1, .int x2, .ref z0, .ref z0]) rfl ?_)
    exact wX6_positive_rX20_b105 X hr htE hrc hrz hf V (lv_sub hl [] rfl) ⟨by omega, by omega⟩
set_option maxHeartbeats 400000 in
set_option maxRecDepth 100000 in
theorem zX6_positive_rX20_b80 {nf : Nat} {rc : (Nat → Option Nat) → xT → xT → Nat → Nat → xI → xL → xR → Nat → Option ((Nat ⊕ Nat) × xT × xT × Nat × Nat × xI × xR)} {dA : Nat → ClassId} {T : xT} {N : xT} {Z : Nat} {S : Nat} {I : xI} {L : xL} {R : xR}  {x0 : Nat} {x1 : Nat} {ro : (Nat ⊕ Nat)} {To : xT} {No : xT} {Zo : Nat} {So : Nat} {Io : xI} {Ro : xR} (hrz : Mon_X6_test_rX20 rc)  (hf : fX6_positive_rX20_b80 nf rc (sv dA) T N Z S I L R x0 x1 = some (ro, To, No, Zo, So, Io, Ro)) : Z ≤ Zo ∧ S ≤ So := by
  unfold fX6_positive_rX20_b80 at hf
  replace hf := tg_s hf; obtain ⟨ht1, hf⟩ := hf
  replace hf := bs hf; obtain ⟨a2, ha2, hf⟩ := hf
  replace hf := rA_s hf; obtain ⟨j3, hjj3, htj3, hij3, hf⟩ := hf
  replace hf := nm_s hf; obtain ⟨u4, hu4, hf⟩ := hf
  replace hf := bs hf; obtain ⟨I5, hk_6, hf⟩ := hf
  replace hf := nm_s hf; obtain ⟨T7, hT7, hf⟩ := hf
  replace hf := nm_s hf; obtain ⟨Z8, hZ8, hf⟩ := hf
  replace hf := nm_s hf; obtain ⟨S9, hS9, hf⟩ := hf
  have hm := zX6_positive_rX20_b98 hrz hf
  exact ⟨by omega, by omega⟩
set_option maxHeartbeats 400000 in
set_option maxRecDepth 100000 in
theorem wX6_positive_rX20_b80 {nf : Nat} {fd ld : Nat} {rc : (Nat → Option Nat) → xT → xT → Nat → Nat → xI → xL → xR → Nat → Option ((Nat ⊕ Nat) × xT × xT × Nat × Nat × xI × xR)} {kc ks : Nat} {cells slots : Nat} {p : Program} {l : Launch} {e : Env} {s : State} {m : MethodId} {args : Array Value} {below : List Frame} {meth : Method} {c : Code} {D : va_G} {dA : Nat → ClassId} {s0 : Nat} {T : xT} {N : xT} {Z : Nat} {S : Nat} {I : xI} {L : xL} {R : xR} {H : Heap} {locs : List Loc} {ls : Array Slot}  {x0 : Nat} {x1 : Nat} {ro : (Nat ⊕ Nat)} {To : xT} {No : xT} {Zo : Nat} {So : Nat} {Io : xI} {Ro : xR} (X : Cx D dA s0 p m c cX6_positive 3 s args RX6 meth) (hr : meth.sig.returnType = (some (.object "LostLanes$Test"))) (htE : c.exceptionTable.toList = []) (hrc : Con_X6_test_rX20 l D dA s0 fd ld rc) (hrz : Mon_X6_test_rX20 rc)    (hf : fX6_positive_rX20_b80 nf rc (sv dA) T N Z S I L R x0 x1 = some (ro, To, No, Zo, So, Io, Ro)) (V : Iv D dA s0 s T N Z I L R H locs) (hl : lv_has ls 3 [(0, .ref x0), (1, .ref x1)]) (hB : cells + (Zo - Z) ≤ kc ∧ slots + (So - S) ≤ ks) : W p l e { frames := fd + 121, cells := kc, slots := ks, locals := ld + 2590 } s m args below meth c H locs cells slots (vx_MQ below (yQ D dA s0 (rA_ ro) To No Zo Io L Ro) (yX D dA s0 (rA_ ro) To No Zo Io L Ro) args s kc ks (fun q => s0 ≤ q)) (F0 m 80 ls []) := by
  have hx := X.1.1
  have hb := X.1.2.1
  unfold fX6_positive_rX20_b80 at hf
  refine lv_aload_n (pc := 80) hx hb dX6_positive_80 rfl (lv_at hl 0 rfl) ?_
  replace hf := tg_s hf; obtain ⟨ht1, hf⟩ := hf
  replace hf := bs hf; obtain ⟨a2, ha2, hf⟩ := hf
  refine x_get (pc := 81) X V okX20 ht1 0 (by decide) q741 (v := va_rf (R x0 0)) rfl dX6_positive_81 ?_
  refine x_topr ha2 ?_
  refine lv_aload_n (pc := 84) hx hb dX6_positive_84 rfl (lv_at hl 0 rfl) ?_
  refine x_get (pc := 85) X V okX20 ht1 3 (by decide) q744 (v := .int (I x0 3)) rfl dX6_positive_85 ?_
  replace hf := rA_s hf; obtain ⟨j3, hjj3, htj3, hij3, hf⟩ := hf
  refine x_bald (pc := 88) X V htj3 hij3 hjj3 dX6_positive_88 ?_
  refine lv_i2c (pc := 89) hx hb dX6_positive_89 rfl ?_
  replace hf := nm_s hf; obtain ⟨u4, hu4, hf⟩ := hf
  refine x_topi hu4 ?_
  refine lv_istore_n (pc := 90) (lv' := [(2, .int u4), (0, .ref x0), (1, .ref x1)]) hx hb dX6_positive_90 rfl hl (by decide) rfl (fun ls hl => ?_)
  refine lv_aload_n (pc := 91) hx hb dX6_positive_91 rfl (lv_at hl 1 rfl) ?_
  replace hf := bs hf; obtain ⟨I5, hk_6, hf⟩ := hf
  refine x_callU (pc := 92) (As := []) (rest := []) X V (mX6_next_rX20 l D dA s0 hk_6) okX20 ht1 q776 q778 q780 q777 q133 q781 rfl hsX6_next_rX20 ⟨by dsimp only; omega, by dsimp only; omega⟩ rfl hl.1 rfl (Nat.le_of_ble_eq_true rfl) dX6_positive_92 ⟨by show cells ≤ kc; omega, by show slots ≤ ks; omega⟩ (fun H locs V => W.eq (g2 := F0 m 95 ls []) rfl ?_)
  replace hf := nm_s hf; obtain ⟨T7, hT7, hf⟩ := hf
  replace hf := nm_s hf; obtain ⟨Z8, hZ8, hf⟩ := hf
  replace hf := nm_s hf; obtain ⟨S9, hS9, hf⟩ := hf
  have hm := zX6_positive_rX20_b98 hrz hf
  refine x_new (pc := 95) X V okX15 hT7 hZ8 q1067 q1068 q145 (by show _ ≤ kc; omega) (by show _ ≤ ks; omega) dX6_positive_95 (fun H V => ?_)
  exact wX6_positive_rX20_b98 X hr htE hrc hrz hf V (lv_sub hl [1, 2, 0] rfl) ⟨by omega, by omega⟩
set_option maxHeartbeats 400000 in
set_option maxRecDepth 100000 in
theorem zX6_positive_rX20_b71 {nf : Nat} {rc : (Nat → Option Nat) → xT → xT → Nat → Nat → xI → xL → xR → Nat → Option ((Nat ⊕ Nat) × xT × xT × Nat × Nat × xI × xR)} {dA : Nat → ClassId} {T : xT} {N : xT} {Z : Nat} {S : Nat} {I : xI} {L : xL} {R : xR}  {x0 : Nat} {z0 : Nat} {ro : (Nat ⊕ Nat)} {To : xT} {No : xT} {Zo : Nat} {So : Nat} {Io : xI} {Ro : xR} (hrz : Mon_X6_test_rX20 rc)  (hf : fX6_positive_rX20_b71 nf rc (sv dA) T N Z S I L R x0 z0 = some (ro, To, No, Zo, So, Io, Ro)) : Z ≤ Zo ∧ S ≤ So := by
  unfold fX6_positive_rX20_b71 at hf
  replace hf := tg_s hf; obtain ⟨ht1, hf⟩ := hf
  replace hf := b2s hf; obtain ⟨I2, R3, hk_4, hf⟩ := hf
  replace hf := tg_s hf; obtain ⟨ht5, hf⟩ := hf
  cases hf
  exact ⟨Nat.le_refl _, Nat.le_refl _⟩
set_option maxHeartbeats 400000 in
set_option maxRecDepth 100000 in
theorem wX6_positive_rX20_b71 {nf : Nat} {fd ld : Nat} {rc : (Nat → Option Nat) → xT → xT → Nat → Nat → xI → xL → xR → Nat → Option ((Nat ⊕ Nat) × xT × xT × Nat × Nat × xI × xR)} {kc ks : Nat} {cells slots : Nat} {p : Program} {l : Launch} {e : Env} {s : State} {m : MethodId} {args : Array Value} {below : List Frame} {meth : Method} {c : Code} {D : va_G} {dA : Nat → ClassId} {s0 : Nat} {T : xT} {N : xT} {Z : Nat} {S : Nat} {I : xI} {L : xL} {R : xR} {H : Heap} {locs : List Loc} {ls : Array Slot}  {x0 : Nat} {z0 : Nat} {ro : (Nat ⊕ Nat)} {To : xT} {No : xT} {Zo : Nat} {So : Nat} {Io : xI} {Ro : xR} (X : Cx D dA s0 p m c cX6_positive 3 s args RX6 meth) (hr : meth.sig.returnType = (some (.object "LostLanes$Test"))) (htE : c.exceptionTable.toList = []) (hrc : Con_X6_test_rX20 l D dA s0 fd ld rc) (hrz : Mon_X6_test_rX20 rc)    (hf : fX6_positive_rX20_b71 nf rc (sv dA) T N Z S I L R x0 z0 = some (ro, To, No, Zo, So, Io, Ro)) (V : Iv D dA s0 s T N Z I L R H locs) (hl : lv_has ls 3 [(0, .ref x0)]) (hB : cells + (Zo - Z) ≤ kc ∧ slots + (So - S) ≤ ks) : W p l e { frames := fd + 121, cells := kc, slots := ks, locals := ld + 2590 } s m args below meth c H locs cells slots (vx_MQ below (yQ D dA s0 (rA_ ro) To No Zo Io L Ro) (yX D dA s0 (rA_ ro) To No Zo Io L Ro) args s kc ks (fun q => s0 ≤ q)) (F0 m 71 ls [.ref z0]) := by
  have hx := X.1.1
  have hb := X.1.2.1
  unfold fX6_positive_rX20_b71 at hf
  refine lv_dup (pc := 71) hx hb dX6_positive_71 rfl ?_
  refine lv_aload_n (pc := 72) hx hb dX6_positive_72 rfl (lv_at hl 0 rfl) ?_
  replace hf := tg_s hf; obtain ⟨ht1, hf⟩ := hf
  refine x_get (pc := 73) X V okX20 ht1 3 (by decide) q744 (v := .int (I x0 3)) rfl dX6_positive_73 ?_
  replace hf := b2s hf; obtain ⟨I2, R3, hk_4, hf⟩ := hf
  refine x_callI0 (pc := 76) (As := [.int (I x0 3)]) (rest := [.ref z0]) X V (mX8_init l D dA s0 hk_4) q864 q865 q138 q866 rfl hsX8_init ⟨by dsimp only; omega, by dsimp only; omega⟩ rfl hl.1 rfl (Nat.le_of_ble_eq_true rfl) dX6_positive_76 ⟨by show cells ≤ kc; omega, by show slots ≤ ks; omega⟩ (fun H locs V => W.eq (g2 := F0 m 79 ls [.ref z0]) rfl ?_)
  replace hf := tg_s hf; obtain ⟨ht5, hf⟩ := hf
  refine vx_athrow (pc := 79) hx hb dX6_positive_79 ?_
  cases hf
  exact y_out X V htE okX8 ht5 (by omega) (by omega)
set_option maxHeartbeats 400000 in
set_option maxRecDepth 100000 in
theorem zX6_positive_rX20_b40 {nf : Nat} {rc : (Nat → Option Nat) → xT → xT → Nat → Nat → xI → xL → xR → Nat → Option ((Nat ⊕ Nat) × xT × xT × Nat × Nat × xI × xR)} {dA : Nat → ClassId} {T : xT} {N : xT} {Z : Nat} {S : Nat} {I : xI} {L : xL} {R : xR}  {x0 : Nat} {z0 : Nat} {ro : (Nat ⊕ Nat)} {To : xT} {No : xT} {Zo : Nat} {So : Nat} {Io : xI} {Ro : xR} (hrz : Mon_X6_test_rX20 rc)  (hf : fX6_positive_rX20_b40 nf rc (sv dA) T N Z S I L R x0 z0 = some (ro, To, No, Zo, So, Io, Ro)) : Z ≤ Zo ∧ S ≤ So := by
  unfold fX6_positive_rX20_b40 at hf
  replace hf := bs hf; obtain ⟨a1, ha1, hf⟩ := hf
  replace hf := tg_s hf; obtain ⟨ht4, hf⟩ := hf
  replace hf := bs hf; obtain ⟨r2, hk_3, hf⟩ := hf
  rcases (Decidable.em (r2 = (ii 0))).symm with c5 | c5
  · replace hf := if_f hf c5
    have hm := zX6_positive_rX20_b80 hrz hf
    exact ⟨by omega, by omega⟩
  · replace hf := if_t hf c5
    replace hf := bs hf; obtain ⟨a6, ha6, hf⟩ := hf
    replace hf := bs hf; obtain ⟨r7, hk_8, hf⟩ := hf
    rcases (Decidable.em (r7 = (ii 0))).symm with c9 | c9
    · replace hf := if_f hf c9
      have hm := zX6_positive_rX20_b80 hrz hf
      exact ⟨by omega, by omega⟩
    · replace hf := if_t hf c9
      replace hf := bs hf; obtain ⟨a10, ha10, hf⟩ := hf
      replace hf := bs hf; obtain ⟨r11, hk_12, hf⟩ := hf
      rcases (Decidable.em (r11 = (ii 0))).symm with c13 | c13
      · replace hf := if_f hf c13
        have hm := zX6_positive_rX20_b80 hrz hf
        exact ⟨by omega, by omega⟩
      · replace hf := if_t hf c13
        replace hf := nm_s hf; obtain ⟨T14, hT14, hf⟩ := hf
        replace hf := nm_s hf; obtain ⟨Z15, hZ15, hf⟩ := hf
        replace hf := nm_s hf; obtain ⟨S16, hS16, hf⟩ := hf
        have hm := zX6_positive_rX20_b71 hrz hf
        exact ⟨by omega, by omega⟩
set_option maxHeartbeats 400000 in
set_option maxRecDepth 100000 in
theorem wX6_positive_rX20_b40 {nf : Nat} {fd ld : Nat} {rc : (Nat → Option Nat) → xT → xT → Nat → Nat → xI → xL → xR → Nat → Option ((Nat ⊕ Nat) × xT × xT × Nat × Nat × xI × xR)} {kc ks : Nat} {cells slots : Nat} {p : Program} {l : Launch} {e : Env} {s : State} {m : MethodId} {args : Array Value} {below : List Frame} {meth : Method} {c : Code} {D : va_G} {dA : Nat → ClassId} {s0 : Nat} {T : xT} {N : xT} {Z : Nat} {S : Nat} {I : xI} {L : xL} {R : xR} {H : Heap} {locs : List Loc} {ls : Array Slot}  {x0 : Nat} {z0 : Nat} {ro : (Nat ⊕ Nat)} {To : xT} {No : xT} {Zo : Nat} {So : Nat} {Io : xI} {Ro : xR} (X : Cx D dA s0 p m c cX6_positive 3 s args RX6 meth) (hr : meth.sig.returnType = (some (.object "LostLanes$Test"))) (htE : c.exceptionTable.toList = []) (hrc : Con_X6_test_rX20 l D dA s0 fd ld rc) (hrz : Mon_X6_test_rX20 rc)    (hf : fX6_positive_rX20_b40 nf rc (sv dA) T N Z S I L R x0 z0 = some (ro, To, No, Zo, So, Io, Ro)) (V : Iv D dA s0 s T N Z I L R H locs) (hl : lv_has ls 3 [(0, .ref x0)]) (hB : cells + (Zo - Z) ≤ kc ∧ slots + (So - S) ≤ ks) : W p l e { frames := fd + 121, cells := kc, slots := ks, locals := ld + 2590 } s m args below meth c H locs cells slots (vx_MQ below (yQ D dA s0 (rA_ ro) To No Zo Io L Ro) (yX D dA s0 (rA_ ro) To No Zo Io L Ro) args s kc ks (fun q => s0 ≤ q)) (F0 m 40 ls [.ref z0]) := by
  have hx := X.1.1
  have hb := X.1.2.1
  unfold fX6_positive_rX20_b40 at hf
  refine lv_astore_n (pc := 40) (lv' := [(1, .ref z0), (0, .ref x0)]) hx hb dX6_positive_40 rfl hl (by decide) rfl (fun ls hl => ?_)
  refine lv_aload_n (pc := 41) hx hb dX6_positive_41 rfl (lv_at hl 1 rfl) ?_
  replace hf := bs hf; obtain ⟨a1, ha1, hf⟩ := hf
  refine x_ldcS (pc := 42) X 30 rfl ha1 dX6_positive_42 ?_
  replace hf := tg_s hf; obtain ⟨ht4, hf⟩ := hf
  replace hf := bs hf; obtain ⟨r2, hk_3, hf⟩ := hf
  refine x_callU (pc := 44) (As := [.ref a1]) (rest := []) X V (mX6_is_rX20 l D dA s0 hk_3) okX20 ht4 q916 q2222 q2224 q799 q133 q800 rfl hsX6_is_rX20 ⟨by dsimp only; omega, by dsimp only; omega⟩ rfl hl.1 rfl (Nat.le_of_ble_eq_true rfl) dX6_positive_44 ⟨by show cells ≤ kc; omega, by show slots ≤ ks; omega⟩ (fun H locs V => W.eq (g2 := F0 m 47 ls [.int r2]) rfl ?_)
  refine lv_if_ne (pc := 47) (tgt := 80) hx hb dX6_positive_47 (by decide) (fun c5 => ?_) (fun c5 => ?_)
  · replace hf := if_f hf c5
    exact wX6_positive_rX20_b80 X hr htE hrc hrz hf V (lv_sub hl [1, 0] rfl) ⟨by omega, by omega⟩
  · replace hf := if_t hf c5
    refine lv_aload_n (pc := 50) hx hb dX6_positive_50 rfl (lv_at hl 1 rfl) ?_
    replace hf := bs hf; obtain ⟨a6, ha6, hf⟩ := hf
    refine x_ldcS (pc := 51) X 31 rfl ha6 dX6_positive_51 ?_
    replace hf := bs hf; obtain ⟨r7, hk_8, hf⟩ := hf
    refine x_callU (pc := 53) (As := [.ref a6]) (rest := []) X V (mX6_is_rX20 l D dA s0 hk_8) okX20 ht4 q916 q2222 q2224 q799 q133 q800 rfl hsX6_is_rX20 ⟨by dsimp only; omega, by dsimp only; omega⟩ rfl hl.1 rfl (Nat.le_of_ble_eq_true rfl) dX6_positive_53 ⟨by show cells ≤ kc; omega, by show slots ≤ ks; omega⟩ (fun H locs V => W.eq (g2 := F0 m 56 ls [.int r7]) rfl ?_)
    refine lv_if_ne (pc := 56) (tgt := 80) hx hb dX6_positive_56 (by decide) (fun c9 => ?_) (fun c9 => ?_)
    · replace hf := if_f hf c9
      exact wX6_positive_rX20_b80 X hr htE hrc hrz hf V (lv_sub hl [1, 0] rfl) ⟨by omega, by omega⟩
    · replace hf := if_t hf c9
      refine lv_aload_n (pc := 59) hx hb dX6_positive_59 rfl (lv_at hl 1 rfl) ?_
      replace hf := bs hf; obtain ⟨a10, ha10, hf⟩ := hf
      refine x_ldcS (pc := 60) X 32 rfl ha10 dX6_positive_60 ?_
      replace hf := bs hf; obtain ⟨r11, hk_12, hf⟩ := hf
      refine x_callU (pc := 62) (As := [.ref a10]) (rest := []) X V (mX6_is_rX20 l D dA s0 hk_12) okX20 ht4 q916 q2222 q2224 q799 q133 q800 rfl hsX6_is_rX20 ⟨by dsimp only; omega, by dsimp only; omega⟩ rfl hl.1 rfl (Nat.le_of_ble_eq_true rfl) dX6_positive_62 ⟨by show cells ≤ kc; omega, by show slots ≤ ks; omega⟩ (fun H locs V => W.eq (g2 := F0 m 65 ls [.int r11]) rfl ?_)
      refine lv_if_ne (pc := 65) (tgt := 80) hx hb dX6_positive_65 (by decide) (fun c13 => ?_) (fun c13 => ?_)
      · replace hf := if_f hf c13
        exact wX6_positive_rX20_b80 X hr htE hrc hrz hf V (lv_sub hl [1, 0] rfl) ⟨by omega, by omega⟩
      · replace hf := if_t hf c13
        replace hf := nm_s hf; obtain ⟨T14, hT14, hf⟩ := hf
        replace hf := nm_s hf; obtain ⟨Z15, hZ15, hf⟩ := hf
        replace hf := nm_s hf; obtain ⟨S16, hS16, hf⟩ := hf
        have hm := zX6_positive_rX20_b71 hrz hf
        refine x_new (pc := 68) X V okX8 hT14 hZ15 q855 q856 q138 (by show _ ≤ kc; omega) (by show _ ≤ ks; omega) dX6_positive_68 (fun H V => ?_)
        exact wX6_positive_rX20_b71 X hr htE hrc hrz hf V (lv_sub hl [1] rfl) ⟨by omega, by omega⟩
set_option maxHeartbeats 400000 in
set_option maxRecDepth 100000 in
theorem zX6_positive_rX20_b24 {nf : Nat} {rc : (Nat → Option Nat) → xT → xT → Nat → Nat → xI → xL → xR → Nat → Option ((Nat ⊕ Nat) × xT × xT × Nat × Nat × xI × xR)} {dA : Nat → ClassId} {T : xT} {N : xT} {Z : Nat} {S : Nat} {I : xI} {L : xL} {R : xR}  {x0 : Nat} {x1 : Nat} {ro : (Nat ⊕ Nat)} {To : xT} {No : xT} {Zo : Nat} {So : Nat} {Io : xI} {Ro : xR} (hrz : Mon_X6_test_rX20 rc)  (hf : fX6_positive_rX20_b24 nf rc (sv dA) T N Z S I L R x0 x1 = some (ro, To, No, Zo, So, Io, Ro)) : Z ≤ Zo ∧ S ≤ So := by
  unfold fX6_positive_rX20_b24 at hf
  replace hf := tg_s hf; obtain ⟨ht1, hf⟩ := hf
  replace hf := nm_s hf; obtain ⟨I2, hI2, hf⟩ := hf
  cases hf
  exact ⟨Nat.le_refl _, Nat.le_refl _⟩
set_option maxHeartbeats 400000 in
set_option maxRecDepth 100000 in
theorem wX6_positive_rX20_b24 {nf : Nat} {fd ld : Nat} {rc : (Nat → Option Nat) → xT → xT → Nat → Nat → xI → xL → xR → Nat → Option ((Nat ⊕ Nat) × xT × xT × Nat × Nat × xI × xR)} {kc ks : Nat} {cells slots : Nat} {p : Program} {l : Launch} {e : Env} {s : State} {m : MethodId} {args : Array Value} {below : List Frame} {meth : Method} {c : Code} {D : va_G} {dA : Nat → ClassId} {s0 : Nat} {T : xT} {N : xT} {Z : Nat} {S : Nat} {I : xI} {L : xL} {R : xR} {H : Heap} {locs : List Loc} {ls : Array Slot}  {x0 : Nat} {x1 : Nat} {ro : (Nat ⊕ Nat)} {To : xT} {No : xT} {Zo : Nat} {So : Nat} {Io : xI} {Ro : xR} (X : Cx D dA s0 p m c cX6_positive 3 s args RX6 meth) (hr : meth.sig.returnType = (some (.object "LostLanes$Test"))) (htE : c.exceptionTable.toList = []) (hrc : Con_X6_test_rX20 l D dA s0 fd ld rc) (hrz : Mon_X6_test_rX20 rc)    (hf : fX6_positive_rX20_b24 nf rc (sv dA) T N Z S I L R x0 x1 = some (ro, To, No, Zo, So, Io, Ro)) (V : Iv D dA s0 s T N Z I L R H locs) (hl : lv_has ls 3 [(0, .ref x0), (1, .ref x1)]) (hB : cells + (Zo - Z) ≤ kc ∧ slots + (So - S) ≤ ks) : W p l e { frames := fd + 121, cells := kc, slots := ks, locals := ld + 2590 } s m args below meth c H locs cells slots (vx_MQ below (yQ D dA s0 (rA_ ro) To No Zo Io L Ro) (yX D dA s0 (rA_ ro) To No Zo Io L Ro) args s kc ks (fun q => s0 ≤ q)) (F0 m 24 ls []) := by
  have hx := X.1.1
  have hb := X.1.2.1
  unfold fX6_positive_rX20_b24 at hf
  refine lv_aload_n (pc := 24) hx hb dX6_positive_24 rfl (lv_at hl 0 rfl) ?_
  refine lv_dup (pc := 25) hx hb dX6_positive_25 rfl ?_
  replace hf := tg_s hf; obtain ⟨ht1, hf⟩ := hf
  refine x_get (pc := 26) X V okX20 ht1 6 (by decide) q747 (v := .int (I x0 6)) rfl dX6_positive_26 ?_
  refine lv_iconst (pc := 29) (v := (ii 1)) hx hb dX6_positive_29 (by decide) ?_
  refine lv_isub (pc := 30) hx hb dX6_positive_30 ?_
  replace hf := nm_s hf; obtain ⟨I2, hI2, hf⟩ := hf
  refine x_puti (pc := 31) X V okX20 (by decide) ht1 6 (by decide) q747 (Or.inl rfl) hI2 (fun _ _ _ => rfl) rfl rfl dX6_positive_31 (fun H locs V => ?_)
  refine lv_aload_n (pc := 34) hx hb dX6_positive_34 rfl (lv_at hl 1 rfl) ?_
  cases hf
  exact y_aret (pc := 35) X V hr (by omega) (by omega) (Or.inl ⟨_, rfl⟩) dX6_positive_35
set_option maxHeartbeats 400000 in
set_option maxRecDepth 100000 in
theorem zX6_positive_rX20_b17 {nf : Nat} {rc : (Nat → Option Nat) → xT → xT → Nat → Nat → xI → xL → xR → Nat → Option ((Nat ⊕ Nat) × xT × xT × Nat × Nat × xI × xR)} {dA : Nat → ClassId} {T : xT} {N : xT} {Z : Nat} {S : Nat} {I : xI} {L : xL} {R : xR}  {x0 : Nat} {z0 : Nat} {ro : (Nat ⊕ Nat)} {To : xT} {No : xT} {Zo : Nat} {So : Nat} {Io : xI} {Ro : xR} (hrz : Mon_X6_test_rX20 rc)  (hf : fX6_positive_rX20_b17 nf rc (sv dA) T N Z S I L R x0 z0 = some (ro, To, No, Zo, So, Io, Ro)) : Z ≤ Zo ∧ S ≤ So := by
  unfold fX6_positive_rX20_b17 at hf
  replace hf := bs hf; obtain ⟨a1, ha1, hf⟩ := hf
  replace hf := tg_s hf; obtain ⟨ht10, hf⟩ := hf
  replace hf := b7s hf; obtain ⟨r2, T3, N4, Z5, S6, I7, R8, hk_9, hf⟩ := hf
  have hm_hk_9 := zX6_need_rX20 hk_9
  replace hf := xc_s hf; rcases hf with ⟨a11, hr_13, hf⟩ | ⟨v12, hr_13, hf⟩
  · skip
    replace hf := tg_s hf; obtain ⟨ht14, hf⟩ := hf
    cases hf
    exact ⟨by omega, by omega⟩
  · skip
    have hm := zX6_positive_rX20_b24 hrz hf
    exact ⟨by omega, by omega⟩
set_option maxHeartbeats 400000 in
set_option maxRecDepth 100000 in
theorem wX6_positive_rX20_b17 {nf : Nat} {fd ld : Nat} {rc : (Nat → Option Nat) → xT → xT → Nat → Nat → xI → xL → xR → Nat → Option ((Nat ⊕ Nat) × xT × xT × Nat × Nat × xI × xR)} {kc ks : Nat} {cells slots : Nat} {p : Program} {l : Launch} {e : Env} {s : State} {m : MethodId} {args : Array Value} {below : List Frame} {meth : Method} {c : Code} {D : va_G} {dA : Nat → ClassId} {s0 : Nat} {T : xT} {N : xT} {Z : Nat} {S : Nat} {I : xI} {L : xL} {R : xR} {H : Heap} {locs : List Loc} {ls : Array Slot}  {x0 : Nat} {z0 : Nat} {ro : (Nat ⊕ Nat)} {To : xT} {No : xT} {Zo : Nat} {So : Nat} {Io : xI} {Ro : xR} (X : Cx D dA s0 p m c cX6_positive 3 s args RX6 meth) (hr : meth.sig.returnType = (some (.object "LostLanes$Test"))) (htE : c.exceptionTable.toList = []) (hrc : Con_X6_test_rX20 l D dA s0 fd ld rc) (hrz : Mon_X6_test_rX20 rc)    (hf : fX6_positive_rX20_b17 nf rc (sv dA) T N Z S I L R x0 z0 = some (ro, To, No, Zo, So, Io, Ro)) (V : Iv D dA s0 s T N Z I L R H locs) (hl : lv_has ls 3 [(0, .ref x0)]) (hB : cells + (Zo - Z) ≤ kc ∧ slots + (So - S) ≤ ks) : W p l e { frames := fd + 121, cells := kc, slots := ks, locals := ld + 2590 } s m args below meth c H locs cells slots (vx_MQ below (yQ D dA s0 (rA_ ro) To No Zo Io L Ro) (yX D dA s0 (rA_ ro) To No Zo Io L Ro) args s kc ks (fun q => s0 ≤ q)) (F0 m 17 ls [.ref z0]) := by
  have hx := X.1.1
  have hb := X.1.2.1
  unfold fX6_positive_rX20_b17 at hf
  refine lv_astore_n (pc := 17) (lv' := [(1, .ref z0), (0, .ref x0)]) hx hb dX6_positive_17 rfl hl (by decide) rfl (fun ls hl => ?_)
  refine lv_aload_n (pc := 18) hx hb dX6_positive_18 rfl (lv_at hl 1 rfl) ?_
  replace hf := bs hf; obtain ⟨a1, ha1, hf⟩ := hf
  refine x_ldcS (pc := 19) X 29 rfl ha1 dX6_positive_19 ?_
  replace hf := tg_s hf; obtain ⟨ht10, hf⟩ := hf
  replace hf := b7s hf; obtain ⟨r2, T3, N4, Z5, S6, I7, R8, hk_9, hf⟩ := hf
  have hm_hk_9 := zX6_need_rX20 hk_9
  replace hf := xc_s hf; rcases hf with ⟨a11, hr_13, hf⟩ | ⟨v12, hr_13, hf⟩
  · rw [hr_13] at hk_9
    replace hf := tg_s hf; obtain ⟨ht14, hf⟩ := hf
    have hzE : Z5 = Zo := by cases hf; rfl
    have hsE : S6 = So := by cases hf; rfl
    refine y_afterX (y_runU (pc := 21) (As := [.ref a1]) (rest := []) X V (mX6_need_rX20 l D dA s0 (kc := Z5 - Z) (ks := S6 - S) (Nat.le_refl _) (Nat.le_refl _) hk_9) okX20 ht10 q925 q927 q929 q926 q133 q930 rfl hsX6_need_rX20 ⟨by dsimp only; omega, by dsimp only; omega⟩ rfl hl.1 rfl (Nat.le_of_ble_eq_true rfl) dX6_positive_21 ⟨by show _ ≤ kc; omega, by show _ ≤ ks; omega⟩) V (fun H locs V => ?_)
    cases hf
    exact y_out X V htE okX8 ht14 (by omega) (by omega)
  · rw [hr_13] at hk_9
    have hm := zX6_positive_rX20_b24 hrz hf
    refine y_afterR (y_runU (pc := 21) (As := [.ref a1]) (rest := []) X V (mX6_need_rX20 l D dA s0 (kc := Z5 - Z) (ks := S6 - S) (Nat.le_refl _) (Nat.le_refl _) hk_9) okX20 ht10 q925 q927 q929 q926 q133 q930 rfl hsX6_need_rX20 ⟨by dsimp only; omega, by dsimp only; omega⟩ rfl hl.1 rfl (Nat.le_of_ble_eq_true rfl) dX6_positive_21 ⟨by show _ ≤ kc; omega, by show _ ≤ ks; omega⟩) V (fun H locs V => W.eq (g2 := F0 m 24 ls []) rfl ?_)
    exact wX6_positive_rX20_b24 X hr htE hrc hrz hf V (lv_sub hl [1, 0] rfl) ⟨by omega, by omega⟩
set_option maxHeartbeats 400000 in
set_option maxRecDepth 100000 in
theorem zX6_positive_rX20_b13 {nf : Nat} {rc : (Nat → Option Nat) → xT → xT → Nat → Nat → xI → xL → xR → Nat → Option ((Nat ⊕ Nat) × xT × xT × Nat × Nat × xI × xR)} {dA : Nat → ClassId} {T : xT} {N : xT} {Z : Nat} {S : Nat} {I : xI} {L : xL} {R : xR}  {x0 : Nat} {ro : (Nat ⊕ Nat)} {To : xT} {No : xT} {Zo : Nat} {So : Nat} {Io : xI} {Ro : xR} (hrz : Mon_X6_test_rX20 rc)  (hf : fX6_positive_rX20_b13 nf rc (sv dA) T N Z S I L R x0 = some (ro, To, No, Zo, So, Io, Ro)) : Z ≤ Zo ∧ S ≤ So := by
  unfold fX6_positive_rX20_b13 at hf
  replace hf := tg_s hf; obtain ⟨ht9, hf⟩ := hf
  replace hf := b7s hf; obtain ⟨r1, T2, N3, Z4, S5, I6, R7, hk_8, hf⟩ := hf
  have hm_hk_8 := hrz hk_8
  replace hf := xc_s hf; rcases hf with ⟨a10, hr_12, hf⟩ | ⟨v11, hr_12, hf⟩
  · skip
    replace hf := tg_s hf; obtain ⟨ht13, hf⟩ := hf
    cases hf
    exact ⟨by omega, by omega⟩
  · skip
    have hm := zX6_positive_rX20_b17 hrz hf
    exact ⟨by omega, by omega⟩
set_option maxHeartbeats 400000 in
set_option maxRecDepth 100000 in
theorem wX6_positive_rX20_b13 {nf : Nat} {fd ld : Nat} {rc : (Nat → Option Nat) → xT → xT → Nat → Nat → xI → xL → xR → Nat → Option ((Nat ⊕ Nat) × xT × xT × Nat × Nat × xI × xR)} {kc ks : Nat} {cells slots : Nat} {p : Program} {l : Launch} {e : Env} {s : State} {m : MethodId} {args : Array Value} {below : List Frame} {meth : Method} {c : Code} {D : va_G} {dA : Nat → ClassId} {s0 : Nat} {T : xT} {N : xT} {Z : Nat} {S : Nat} {I : xI} {L : xL} {R : xR} {H : Heap} {locs : List Loc} {ls : Array Slot}  {x0 : Nat} {ro : (Nat ⊕ Nat)} {To : xT} {No : xT} {Zo : Nat} {So : Nat} {Io : xI} {Ro : xR} (X : Cx D dA s0 p m c cX6_positive 3 s args RX6 meth) (hr : meth.sig.returnType = (some (.object "LostLanes$Test"))) (htE : c.exceptionTable.toList = []) (hrc : Con_X6_test_rX20 l D dA s0 fd ld rc) (hrz : Mon_X6_test_rX20 rc)    (hf : fX6_positive_rX20_b13 nf rc (sv dA) T N Z S I L R x0 = some (ro, To, No, Zo, So, Io, Ro)) (V : Iv D dA s0 s T N Z I L R H locs) (hl : lv_has ls 3 [(0, .ref x0)]) (hB : cells + (Zo - Z) ≤ kc ∧ slots + (So - S) ≤ ks) : W p l e { frames := fd + 121, cells := kc, slots := ks, locals := ld + 2590 } s m args below meth c H locs cells slots (vx_MQ below (yQ D dA s0 (rA_ ro) To No Zo Io L Ro) (yX D dA s0 (rA_ ro) To No Zo Io L Ro) args s kc ks (fun q => s0 ≤ q)) (F0 m 13 ls []) := by
  have hx := X.1.1
  have hb := X.1.2.1
  unfold fX6_positive_rX20_b13 at hf
  refine lv_aload_n (pc := 13) hx hb dX6_positive_13 rfl (lv_at hl 0 rfl) ?_
  replace hf := tg_s hf; obtain ⟨ht9, hf⟩ := hf
  replace hf := b7s hf; obtain ⟨r1, T2, N3, Z4, S5, I6, R7, hk_8, hf⟩ := hf
  have hm_hk_8 := hrz hk_8
  replace hf := xc_s hf; rcases hf with ⟨a10, hr_12, hf⟩ | ⟨v11, hr_12, hf⟩
  · rw [hr_12] at hk_8
    replace hf := tg_s hf; obtain ⟨ht13, hf⟩ := hf
    have hzE : Z4 = Zo := by cases hf; rfl
    have hsE : S5 = So := by cases hf; rfl
    refine y_afterX (y_runU (pc := 14) (As := []) (rest := []) X V (hrc (kc := Z4 - Z) (ks := S5 - S) (Nat.le_refl _) (Nat.le_refl _) hk_8) okX20 ht9 q1062 q2228 q2230 q1040 q133 q1041 rfl hsX6_test_rX20 ⟨by dsimp only; omega, by dsimp only; omega⟩ rfl hl.1 rfl (Nat.le_of_ble_eq_true rfl) dX6_positive_14 ⟨by show _ ≤ kc; omega, by show _ ≤ ks; omega⟩) V (fun H locs V => ?_)
    cases hf
    exact y_out X V htE okX8 ht13 (by omega) (by omega)
  · rw [hr_12] at hk_8
    have hm := zX6_positive_rX20_b17 hrz hf
    refine y_afterR (y_runU (pc := 14) (As := []) (rest := []) X V (hrc (kc := Z4 - Z) (ks := S5 - S) (Nat.le_refl _) (Nat.le_refl _) hk_8) okX20 ht9 q1062 q2228 q2230 q1040 q133 q1041 rfl hsX6_test_rX20 ⟨by dsimp only; omega, by dsimp only; omega⟩ rfl hl.1 rfl (Nat.le_of_ble_eq_true rfl) dX6_positive_14 ⟨by show _ ≤ kc; omega, by show _ ≤ ks; omega⟩) V (fun H locs V => W.eq (g2 := F0 m 17 ls [.ref v11]) rfl ?_)
    exact wX6_positive_rX20_b17 X hr htE hrc hrz hf V (lv_sub hl [0] rfl) ⟨by omega, by omega⟩
set_option maxHeartbeats 400000 in
set_option maxRecDepth 100000 in
theorem zX6_positive_rX20 {nf : Nat} {rc : (Nat → Option Nat) → xT → xT → Nat → Nat → xI → xL → xR → Nat → Option ((Nat ⊕ Nat) × xT × xT × Nat × Nat × xI × xR)} {dA : Nat → ClassId} {T : xT} {N : xT} {Z : Nat} {S : Nat} {I : xI} {L : xL} {R : xR} {x0 : Nat} {ro : (Nat ⊕ Nat)} {To : xT} {No : xT} {Zo : Nat} {So : Nat} {Io : xI} {Ro : xR} (hrz : Mon_X6_test_rX20 rc) (hf : fX6_positive_rX20 nf rc (sv dA) T N Z S I L R x0 = some (ro, To, No, Zo, So, Io, Ro)) : Z ≤ Zo ∧ S ≤ So := by
  unfold fX6_positive_rX20 at hf
  replace hf := bs hf; obtain ⟨a1, ha1, hf⟩ := hf
  replace hf := tg_s hf; obtain ⟨ht4, hf⟩ := hf
  replace hf := bs hf; obtain ⟨r2, hk_3, hf⟩ := hf
  rcases (Decidable.em (r2 = (ii 0))) with c5 | c5
  · replace hf := if_t hf c5
    replace hf := b7s hf; obtain ⟨r6, T7, N8, Z9, S10, I11, R12, hk_13, hf⟩ := hf
    have hm_hk_13 := zX6_sum_rX20 12 hk_13
    replace hf := xc_s hf; rcases hf with ⟨a14, hr_16, hf⟩ | ⟨v15, hr_16, hf⟩
    · skip
      replace hf := tg_s hf; obtain ⟨ht17, hf⟩ := hf
      cases hf
      exact ⟨by omega, by omega⟩
    · skip
      have hm := zX6_positive_rX20_b40 hrz hf
      exact ⟨by omega, by omega⟩
  · replace hf := if_f hf c5
    replace hf := b7s hf; obtain ⟨r18, T19, N20, Z21, S22, I23, R24, hk_25, hf⟩ := hf
    have hm_hk_25 := zX6_opens_rX20 hk_25
    replace hf := xc_s hf; rcases hf with ⟨a26, hr_28, hf⟩ | ⟨v27, hr_28, hf⟩
    · skip
      replace hf := tg_s hf; obtain ⟨ht29, hf⟩ := hf
      cases hf
      exact ⟨by omega, by omega⟩
    · skip
      have hm := zX6_positive_rX20_b13 hrz hf
      exact ⟨by omega, by omega⟩
set_option maxHeartbeats 400000 in
set_option maxRecDepth 100000 in
theorem wX6_positive_rX20_e {nf : Nat} {fd ld : Nat} {rc : (Nat → Option Nat) → xT → xT → Nat → Nat → xI → xL → xR → Nat → Option ((Nat ⊕ Nat) × xT × xT × Nat × Nat × xI × xR)} {kc ks : Nat} {cells slots : Nat} {p : Program} {l : Launch} {e : Env} {s : State} {m : MethodId} {args : Array Value} {below : List Frame} {meth : Method} {c : Code} {D : va_G} {dA : Nat → ClassId} {s0 : Nat} {T : xT} {N : xT} {Z : Nat} {S : Nat} {I : xI} {L : xL} {R : xR} {H : Heap} {locs : List Loc} {ls : Array Slot} {x0 : Nat} {ro : (Nat ⊕ Nat)} {To : xT} {No : xT} {Zo : Nat} {So : Nat} {Io : xI} {Ro : xR} (X : Cx D dA s0 p m c cX6_positive 3 s args RX6 meth) (hr : meth.sig.returnType = (some (.object "LostLanes$Test"))) (htE : c.exceptionTable.toList = []) (hrc : Con_X6_test_rX20 l D dA s0 fd ld rc) (hrz : Mon_X6_test_rX20 rc)  (hf : fX6_positive_rX20 nf rc (sv dA) T N Z S I L R x0 = some (ro, To, No, Zo, So, Io, Ro)) (V : Iv D dA s0 s T N Z I L R H locs) (hl : lv_has ls 3 [(0, .ref x0)]) (hB : cells + (Zo - Z) ≤ kc ∧ slots + (So - S) ≤ ks) : W p l e { frames := fd + 121, cells := kc, slots := ks, locals := ld + 2590 } s m args below meth c H locs cells slots (vx_MQ below (yQ D dA s0 (rA_ ro) To No Zo Io L Ro) (yX D dA s0 (rA_ ro) To No Zo Io L Ro) args s kc ks (fun q => s0 ≤ q)) (F0 m 0 ls []) := by
  have hx := X.1.1
  have hb := X.1.2.1
  unfold fX6_positive_rX20 at hf
  refine lv_aload_n (pc := 0) hx hb dX6_positive_0 rfl (lv_at hl 0 rfl) ?_
  replace hf := bs hf; obtain ⟨a1, ha1, hf⟩ := hf
  refine x_ldcS (pc := 1) X 28 rfl ha1 dX6_positive_1 ?_
  replace hf := tg_s hf; obtain ⟨ht4, hf⟩ := hf
  replace hf := bs hf; obtain ⟨r2, hk_3, hf⟩ := hf
  refine x_callU (pc := 3) (As := [.ref a1]) (rest := []) X V (mX6_is_rX20 l D dA s0 hk_3) okX20 ht4 q916 q2222 q2224 q799 q133 q800 rfl hsX6_is_rX20 ⟨by dsimp only; omega, by dsimp only; omega⟩ rfl hl.1 rfl (Nat.le_of_ble_eq_true rfl) dX6_positive_3 ⟨by show cells ≤ kc; omega, by show slots ≤ ks; omega⟩ (fun H locs V => W.eq (g2 := F0 m 6 ls [.int r2]) rfl ?_)
  refine lv_if_eq (pc := 6) (tgt := 36) hx hb dX6_positive_6 (by decide) (fun c5 => ?_) (fun c5 => ?_)
  · replace hf := if_t hf c5
    refine lv_aload_n (pc := 36) hx hb dX6_positive_36 rfl (lv_at hl 0 rfl) ?_
    replace hf := b7s hf; obtain ⟨r6, T7, N8, Z9, S10, I11, R12, hk_13, hf⟩ := hf
    have hm_hk_13 := zX6_sum_rX20 12 hk_13
    replace hf := xc_s hf; rcases hf with ⟨a14, hr_16, hf⟩ | ⟨v15, hr_16, hf⟩
    · rw [hr_16] at hk_13
      replace hf := tg_s hf; obtain ⟨ht17, hf⟩ := hf
      have hzE : Z9 = Zo := by cases hf; rfl
      have hsE : S10 = So := by cases hf; rfl
      refine y_afterX (y_runU (pc := 37) (As := []) (rest := []) X V (mX6_sum_rX20 l D dA s0 12 (kc := Z9 - Z) (ks := S10 - S) (Nat.le_refl _) (Nat.le_refl _) hk_13) okX20 ht4 q923 q2225 q2227 q901 q133 q902 rfl hsX6_sum_rX20 ⟨by dsimp only; omega, by dsimp only; omega⟩ rfl hl.1 rfl (Nat.le_of_ble_eq_true rfl) dX6_positive_37 ⟨by show _ ≤ kc; omega, by show _ ≤ ks; omega⟩) V (fun H locs V => ?_)
      cases hf
      exact y_out X V htE okX8 ht17 (by omega) (by omega)
    · rw [hr_16] at hk_13
      have hm := zX6_positive_rX20_b40 hrz hf
      refine y_afterR (y_runU (pc := 37) (As := []) (rest := []) X V (mX6_sum_rX20 l D dA s0 12 (kc := Z9 - Z) (ks := S10 - S) (Nat.le_refl _) (Nat.le_refl _) hk_13) okX20 ht4 q923 q2225 q2227 q901 q133 q902 rfl hsX6_sum_rX20 ⟨by dsimp only; omega, by dsimp only; omega⟩ rfl hl.1 rfl (Nat.le_of_ble_eq_true rfl) dX6_positive_37 ⟨by show _ ≤ kc; omega, by show _ ≤ ks; omega⟩) V (fun H locs V => W.eq (g2 := F0 m 40 ls [.ref v15]) rfl ?_)
      exact wX6_positive_rX20_b40 X hr htE hrc hrz hf V (lv_sub hl [0] rfl) ⟨by omega, by omega⟩
  · replace hf := if_f hf c5
    refine lv_aload_n (pc := 9) hx hb dX6_positive_9 rfl (lv_at hl 0 rfl) ?_
    replace hf := b7s hf; obtain ⟨r18, T19, N20, Z21, S22, I23, R24, hk_25, hf⟩ := hf
    have hm_hk_25 := zX6_opens_rX20 hk_25
    replace hf := xc_s hf; rcases hf with ⟨a26, hr_28, hf⟩ | ⟨v27, hr_28, hf⟩
    · rw [hr_28] at hk_25
      replace hf := tg_s hf; obtain ⟨ht29, hf⟩ := hf
      have hzE : Z21 = Zo := by cases hf; rfl
      have hsE : S22 = So := by cases hf; rfl
      refine y_afterX (y_runU (pc := 10) (As := []) (rest := []) X V (mX6_opens_rX20 l D dA s0 (kc := Z21 - Z) (ks := S22 - S) (Nat.le_refl _) (Nat.le_refl _) hk_25) okX20 ht4 q917 q919 q921 q918 q133 q922 rfl hsX6_opens_rX20 ⟨by dsimp only; omega, by dsimp only; omega⟩ rfl hl.1 rfl (Nat.le_of_ble_eq_true rfl) dX6_positive_10 ⟨by show _ ≤ kc; omega, by show _ ≤ ks; omega⟩) V (fun H locs V => ?_)
      cases hf
      exact y_out X V htE okX8 ht29 (by omega) (by omega)
    · rw [hr_28] at hk_25
      have hm := zX6_positive_rX20_b13 hrz hf
      refine y_afterR (y_runU (pc := 10) (As := []) (rest := []) X V (mX6_opens_rX20 l D dA s0 (kc := Z21 - Z) (ks := S22 - S) (Nat.le_refl _) (Nat.le_refl _) hk_25) okX20 ht4 q917 q919 q921 q918 q133 q922 rfl hsX6_opens_rX20 ⟨by dsimp only; omega, by dsimp only; omega⟩ rfl hl.1 rfl (Nat.le_of_ble_eq_true rfl) dX6_positive_10 ⟨by show _ ≤ kc; omega, by show _ ≤ ks; omega⟩) V (fun H locs V => W.eq (g2 := F0 m 13 ls []) rfl ?_)
      exact wX6_positive_rX20_b13 X hr htE hrc hrz hf V (lv_sub hl [0] rfl) ⟨by omega, by omega⟩
theorem mX6_positive_rX20 {nf : Nat} {fd ld : Nat} {rc : (Nat → Option Nat) → xT → xT → Nat → Nat → xI → xL → xR → Nat → Option ((Nat ⊕ Nat) × xT × xT × Nat × Nat × xI × xR)} (l : Launch) (D : va_G) (dA : Nat → ClassId) (s0 : Nat) {kc ks : Nat} {T : xT} {N : xT} {Z : Nat} {S : Nat} {I : xI} {L : xL} {R : xR} {x0 : Nat} {ro : (Nat ⊕ Nat)} {To : xT} {No : xT} {Zo : Nat} {So : Nat} {Io : xI} {Ro : xR} (hrc : Con_X6_test_rX20 l D dA s0 fd ld rc) (hrz : Mon_X6_test_rX20 rc) (hZ : Zo - Z ≤ kc) (hS : So - S ≤ ks) (hf : fX6_positive_rX20 nf rc (sv dA) T N Z S I L R x0 = some (ro, To, No, Zo, So, Io, Ro)) : YMet l D dA s0 yX6_positive (ws_ yX6_positive cX6_positive 3 ((some (.object "LostLanes$Test")))) (fd + 121) (ld + 2590) [.ref x0] T N Z I L R (rA_ ro) To No Zo Io L Ro kc ks :=
  y_start (own := RX6) rfl (by decide) (Nat.le_of_ble_eq_true rfl) (lv := [(0, .ref x0)]) rfl (fun p e s m below meth c ls X hr htE V hl => wX6_positive_rX20_e X hr htE hrc hrz hf V hl ⟨by omega, by omega⟩)
set_option maxHeartbeats 400000 in
set_option maxRecDepth 100000 in
theorem zX6_plain_rX20_b36 {nf : Nat} {rc : (Nat → Option Nat) → xT → xT → Nat → Nat → xI → xL → xR → Nat → Option ((Nat ⊕ Nat) × xT × xT × Nat × Nat × xI × xR)} {dA : Nat → ClassId} {T : xT} {N : xT} {Z : Nat} {S : Nat} {I : xI} {L : xL} {R : xR}  {x2 : Nat} {z0 : Nat} {ro : (Nat ⊕ Nat)} {To : xT} {No : xT} {Zo : Nat} {So : Nat} {Io : xI} {Ro : xR} (hrz : Mon_X6_test_rX20 rc)  (hf : fX6_plain_rX20_b36 nf rc (sv dA) T N Z S I L R x2 z0 = some (ro, To, No, Zo, So, Io, Ro)) : Z ≤ Zo ∧ S ≤ So := by
  unfold fX6_plain_rX20_b36 at hf
  replace hf := bs hf; obtain ⟨R1, hk_2, hf⟩ := hf
  cases hf
  exact ⟨Nat.le_refl _, Nat.le_refl _⟩
set_option maxHeartbeats 400000 in
set_option maxRecDepth 100000 in
theorem wX6_plain_rX20_b36 {nf : Nat} {fd ld : Nat} {rc : (Nat → Option Nat) → xT → xT → Nat → Nat → xI → xL → xR → Nat → Option ((Nat ⊕ Nat) × xT × xT × Nat × Nat × xI × xR)} {kc ks : Nat} {cells slots : Nat} {p : Program} {l : Launch} {e : Env} {s : State} {m : MethodId} {args : Array Value} {below : List Frame} {meth : Method} {c : Code} {D : va_G} {dA : Nat → ClassId} {s0 : Nat} {T : xT} {N : xT} {Z : Nat} {S : Nat} {I : xI} {L : xL} {R : xR} {H : Heap} {locs : List Loc} {ls : Array Slot}  {x2 : Nat} {z0 : Nat} {ro : (Nat ⊕ Nat)} {To : xT} {No : xT} {Zo : Nat} {So : Nat} {Io : xI} {Ro : xR} (X : Cx D dA s0 p m c cX6_plain 3 s args RX6 meth) (hr : meth.sig.returnType = (some (.object "LostLanes$Test"))) (htE : c.exceptionTable.toList = []) (hrc : Con_X6_test_rX20 l D dA s0 fd ld rc) (hrz : Mon_X6_test_rX20 rc)    (hf : fX6_plain_rX20_b36 nf rc (sv dA) T N Z S I L R x2 z0 = some (ro, To, No, Zo, So, Io, Ro)) (V : Iv D dA s0 s T N Z I L R H locs) (hl : lv_has ls 3 [(2, .ref x2)]) (hB : cells + (Zo - Z) ≤ kc ∧ slots + (So - S) ≤ ks) : W p l e { frames := fd + 122, cells := kc, slots := ks, locals := ld + 2612 } s m args below meth c H locs cells slots (vx_MQ below (yQ D dA s0 (rA_ ro) To No Zo Io L Ro) (yX D dA s0 (rA_ ro) To No Zo Io L Ro) args s kc ks (fun q => s0 ≤ q)) (F0 m 36 ls [.ref z0]) := by
  have hx := X.1.1
  have hb := X.1.2.1
  unfold fX6_plain_rX20_b36 at hf
  refine lv_dup (pc := 36) hx hb dX6_plain_36 rfl ?_
  refine lv_aload_n (pc := 37) hx hb dX6_plain_37 rfl (lv_at hl 0 rfl) ?_
  replace hf := bs hf; obtain ⟨R1, hk_2, hf⟩ := hf
  refine x_callI0 (pc := 38) (As := [.ref x2]) (rest := [.ref z0]) X V (mX16_init l D dA s0 hk_2) q1088 q1089 q146 q1090 rfl hsX16_init ⟨by dsimp only; omega, by dsimp only; omega⟩ rfl hl.1 rfl (Nat.le_of_ble_eq_true rfl) dX6_plain_38 ⟨by show cells ≤ kc; omega, by show slots ≤ ks; omega⟩ (fun H locs V => W.eq (g2 := F0 m 41 ls [.ref z0]) rfl ?_)
  refine lv_goto (pc := 41) (tgt := 45) hx hb dX6_plain_41 (by decide) ?_
  cases hf
  exact y_aret (pc := 45) X V hr (by omega) (by omega) (Or.inl ⟨_, rfl⟩) dX6_plain_45
set_option maxHeartbeats 400000 in
set_option maxRecDepth 100000 in
theorem zX6_plain_rX20_b28 {nf : Nat} {rc : (Nat → Option Nat) → xT → xT → Nat → Nat → xI → xL → xR → Nat → Option ((Nat ⊕ Nat) × xT × xT × Nat × Nat × xI × xR)} {dA : Nat → ClassId} {T : xT} {N : xT} {Z : Nat} {S : Nat} {I : xI} {L : xL} {R : xR}  {x1 : Int32} {z0 : Nat} {ro : (Nat ⊕ Nat)} {To : xT} {No : xT} {Zo : Nat} {So : Nat} {Io : xI} {Ro : xR} (hrz : Mon_X6_test_rX20 rc)  (hf : fX6_plain_rX20_b28 nf rc (sv dA) T N Z S I L R x1 z0 = some (ro, To, No, Zo, So, Io, Ro)) : Z ≤ Zo ∧ S ≤ So := by
  unfold fX6_plain_rX20_b28 at hf
  rcases (Decidable.em (x1 = (ii 0))) with c1 | c1
  · replace hf := if_t hf c1
    cases hf
    exact ⟨Nat.le_refl _, Nat.le_refl _⟩
  · replace hf := if_f hf c1
    replace hf := nm_s hf; obtain ⟨T2, hT2, hf⟩ := hf
    replace hf := nm_s hf; obtain ⟨Z3, hZ3, hf⟩ := hf
    replace hf := nm_s hf; obtain ⟨S4, hS4, hf⟩ := hf
    have hm := zX6_plain_rX20_b36 hrz hf
    exact ⟨by omega, by omega⟩
set_option maxHeartbeats 400000 in
set_option maxRecDepth 100000 in
theorem wX6_plain_rX20_b28 {nf : Nat} {fd ld : Nat} {rc : (Nat → Option Nat) → xT → xT → Nat → Nat → xI → xL → xR → Nat → Option ((Nat ⊕ Nat) × xT × xT × Nat × Nat × xI × xR)} {kc ks : Nat} {cells slots : Nat} {p : Program} {l : Launch} {e : Env} {s : State} {m : MethodId} {args : Array Value} {below : List Frame} {meth : Method} {c : Code} {D : va_G} {dA : Nat → ClassId} {s0 : Nat} {T : xT} {N : xT} {Z : Nat} {S : Nat} {I : xI} {L : xL} {R : xR} {H : Heap} {locs : List Loc} {ls : Array Slot}  {x1 : Int32} {z0 : Nat} {ro : (Nat ⊕ Nat)} {To : xT} {No : xT} {Zo : Nat} {So : Nat} {Io : xI} {Ro : xR} (X : Cx D dA s0 p m c cX6_plain 3 s args RX6 meth) (hr : meth.sig.returnType = (some (.object "LostLanes$Test"))) (htE : c.exceptionTable.toList = []) (hrc : Con_X6_test_rX20 l D dA s0 fd ld rc) (hrz : Mon_X6_test_rX20 rc)    (hf : fX6_plain_rX20_b28 nf rc (sv dA) T N Z S I L R x1 z0 = some (ro, To, No, Zo, So, Io, Ro)) (V : Iv D dA s0 s T N Z I L R H locs) (hl : lv_has ls 3 [(1, .int x1)]) (hB : cells + (Zo - Z) ≤ kc ∧ slots + (So - S) ≤ ks) : W p l e { frames := fd + 122, cells := kc, slots := ks, locals := ld + 2612 } s m args below meth c H locs cells slots (vx_MQ below (yQ D dA s0 (rA_ ro) To No Zo Io L Ro) (yX D dA s0 (rA_ ro) To No Zo Io L Ro) args s kc ks (fun q => s0 ≤ q)) (F0 m 28 ls [.ref z0]) := by
  have hx := X.1.1
  have hb := X.1.2.1
  unfold fX6_plain_rX20_b28 at hf
  refine lv_astore_n (pc := 28) (lv' := [(2, .ref z0), (1, .int x1)]) hx hb dX6_plain_28 rfl hl (by decide) rfl (fun ls hl => ?_)
  refine lv_iload_n (pc := 29) hx hb dX6_plain_29 rfl (lv_at hl 1 rfl) ?_
  refine lv_if_eq (pc := 30) (tgt := 44) hx hb dX6_plain_30 (by decide) (fun c1 => ?_) (fun c1 => ?_)
  · replace hf := if_t hf c1
    refine lv_aload_n (pc := 44) hx hb dX6_plain_44 rfl (lv_at hl 0 rfl) ?_
    cases hf
    exact y_aret (pc := 45) X V hr (by omega) (by omega) (Or.inl ⟨_, rfl⟩) dX6_plain_45
  · replace hf := if_f hf c1
    replace hf := nm_s hf; obtain ⟨T2, hT2, hf⟩ := hf
    replace hf := nm_s hf; obtain ⟨Z3, hZ3, hf⟩ := hf
    replace hf := nm_s hf; obtain ⟨S4, hS4, hf⟩ := hf
    have hm := zX6_plain_rX20_b36 hrz hf
    refine x_new (pc := 33) X V okX16 hT2 hZ3 q1086 q1087 q146 (by show _ ≤ kc; omega) (by show _ ≤ ks; omega) dX6_plain_33 (fun H V => ?_)
    exact wX6_plain_rX20_b36 X hr htE hrc hrz hf V (lv_sub hl [0] rfl) ⟨by omega, by omega⟩
set_option maxHeartbeats 400000 in
set_option maxRecDepth 100000 in
theorem zX6_plain_rX20_b2 {nf : Nat} {rc : (Nat → Option Nat) → xT → xT → Nat → Nat → xI → xL → xR → Nat → Option ((Nat ⊕ Nat) × xT × xT × Nat × Nat × xI × xR)} {dA : Nat → ClassId} {L : xL}  {ro : (Nat ⊕ Nat)} {To : xT} {No : xT} {Zo : Nat} {So : Nat} {Io : xI} {Ro : xR} (hrz : Mon_X6_test_rX20 rc)  (k : Nat) : ∀ {T : xT} {N : xT} {Z : Nat} {S : Nat} {I : xI} {R : xR} {x0 : Nat} {x1 : Int32}, fX6_plain_rX20_b2 nf rc (sv dA) L k T N Z S I R x0 x1 = some (ro, To, No, Zo, So, Io, Ro) → Z ≤ Zo ∧ S ≤ So := by
  induction k with
  | zero =>
    intro T N Z S I R x0 x1 hf
    exact absurd (show none = some _ from hf) (fun q => nomatch q)
  | succ k ih =>
    intro T N Z S I R x0 x1 hf
    rw [fX6_plain_rX20_b2] at hf
    replace hf := bs hf; obtain ⟨a1, ha1, hf⟩ := hf
    replace hf := tg_s hf; obtain ⟨ht5, hf⟩ := hf
    replace hf := b2s hf; obtain ⟨r2, I3, hk_4, hf⟩ := hf
    rcases (Decidable.em (r2 = (ii 0))) with c6 | c6
    · replace hf := if_t hf c6
      replace hf := b7s hf; obtain ⟨r7, T8, N9, Z10, S11, I12, R13, hk_14, hf⟩ := hf
      have hm_hk_14 := zX6_positive_rX20 hrz hk_14
      replace hf := xc_s hf; rcases hf with ⟨a15, hr_17, hf⟩ | ⟨v16, hr_17, hf⟩
      · skip
        replace hf := tg_s hf; obtain ⟨ht18, hf⟩ := hf
        cases hf
        exact ⟨by omega, by omega⟩
      · skip
        have hm := zX6_plain_rX20_b28 hrz hf
        exact ⟨by omega, by omega⟩
    · replace hf := if_f hf c6
      rcases (Decidable.em (x1 = (ii 0))).symm with c19 | c19
      · replace hf := if_f hf c19
        have hm := ih hf
        exact ⟨by omega, by omega⟩
      · replace hf := if_t hf c19
        have hm := ih hf
        exact ⟨by omega, by omega⟩
set_option maxHeartbeats 400000 in
set_option maxRecDepth 100000 in
theorem wX6_plain_rX20_b2 {nf : Nat} {fd ld : Nat} {rc : (Nat → Option Nat) → xT → xT → Nat → Nat → xI → xL → xR → Nat → Option ((Nat ⊕ Nat) × xT × xT × Nat × Nat × xI × xR)} {kc ks : Nat} {p : Program} {l : Launch} {e : Env} {s : State} {m : MethodId} {args : Array Value} {below : List Frame} {meth : Method} {c : Code} {D : va_G} {dA : Nat → ClassId} {s0 : Nat} {L : xL}  {ro : (Nat ⊕ Nat)} {To : xT} {No : xT} {Zo : Nat} {So : Nat} {Io : xI} {Ro : xR} (X : Cx D dA s0 p m c cX6_plain 3 s args RX6 meth) (hr : meth.sig.returnType = (some (.object "LostLanes$Test"))) (htE : c.exceptionTable.toList = []) (hrc : Con_X6_test_rX20 l D dA s0 fd ld rc) (hrz : Mon_X6_test_rX20 rc)    (k : Nat) : ∀ {T : xT} {N : xT} {Z : Nat} {S : Nat} {I : xI} {R : xR} {x0 : Nat} {x1 : Int32} {H : Heap} {locs : List Loc} {ls : Array Slot} {cells slots : Nat} , fX6_plain_rX20_b2 nf rc (sv dA) L k T N Z S I R x0 x1 = some (ro, To, No, Zo, So, Io, Ro) → Iv D dA s0 s T N Z I L R H locs → lv_has ls 3 [(0, .ref x0), (1, .int x1)] → cells + (Zo - Z) ≤ kc ∧ slots + (So - S) ≤ ks → W p l e { frames := fd + 122, cells := kc, slots := ks, locals := ld + 2612 } s m args below meth c H locs cells slots (vx_MQ below (yQ D dA s0 (rA_ ro) To No Zo Io L Ro) (yX D dA s0 (rA_ ro) To No Zo Io L Ro) args s kc ks (fun q => s0 ≤ q)) (F0 m 2 ls []) := by
  have hx := X.1.1
  have hb := X.1.2.1
  induction k with
  | zero =>
    intro T N Z S I R x0 x1 H locs ls cells slots hf V hl hB
    exact absurd (show none = some _ from hf) (fun q => nomatch q)
  | succ k ih =>
    intro T N Z S I R x0 x1 H locs ls cells slots hf V hl hB
    have ihm : ∀ {T : xT} {N : xT} {Z : Nat} {S : Nat} {I : xI} {R : xR} {x0 : Nat} {x1 : Int32}, fX6_plain_rX20_b2 nf rc (sv dA) L k T N Z S I R x0 x1 = some (ro, To, No, Zo, So, Io, Ro) → Z ≤ Zo ∧ S ≤ So := zX6_plain_rX20_b2 hrz k
    rw [fX6_plain_rX20_b2] at hf
    refine lv_aload_n (pc := 2) hx hb dX6_plain_2 rfl (lv_at hl 0 rfl) ?_
    replace hf := bs hf; obtain ⟨a1, ha1, hf⟩ := hf
    refine x_ldcS (pc := 3) X 27 rfl ha1 dX6_plain_3 ?_
    replace hf := tg_s hf; obtain ⟨ht5, hf⟩ := hf
    replace hf := b2s hf; obtain ⟨r2, I3, hk_4, hf⟩ := hf
    refine x_callU (pc := 5) (As := [.ref a1]) (rest := []) X V (mX6_takes_rX20 l D dA s0 hk_4) okX20 ht5 q931 q933 q935 q932 q133 q936 rfl hsX6_takes_rX20 ⟨by dsimp only; omega, by dsimp only; omega⟩ rfl hl.1 rfl (Nat.le_of_ble_eq_true rfl) dX6_plain_5 ⟨by show cells ≤ kc; omega, by show slots ≤ ks; omega⟩ (fun H locs V => W.eq (g2 := F0 m 8 ls [.int r2]) rfl ?_)
    refine lv_if_eq (pc := 8) (tgt := 24) hx hb dX6_plain_8 (by decide) (fun c6 => ?_) (fun c6 => ?_)
    · replace hf := if_t hf c6
      refine lv_aload_n (pc := 24) hx hb dX6_plain_24 rfl (lv_at hl 0 rfl) ?_
      replace hf := b7s hf; obtain ⟨r7, T8, N9, Z10, S11, I12, R13, hk_14, hf⟩ := hf
      have hm_hk_14 := zX6_positive_rX20 hrz hk_14
      replace hf := xc_s hf; rcases hf with ⟨a15, hr_17, hf⟩ | ⟨v16, hr_17, hf⟩
      · rw [hr_17] at hk_14
        replace hf := tg_s hf; obtain ⟨ht18, hf⟩ := hf
        have hzE : Z10 = Zo := by cases hf; rfl
        have hsE : S11 = So := by cases hf; rfl
        refine y_afterX (y_runU (pc := 25) (As := []) (rest := []) X V (mX6_positive_rX20 l D dA s0 hrc hrz (kc := Z10 - Z) (ks := S11 - S) (Nat.le_refl _) (Nat.le_refl _) hk_14) okX20 ht5 q1055 q1057 q1059 q1056 q133 q1060 rfl hsX6_positive_rX20 ⟨by dsimp only; omega, by dsimp only; omega⟩ rfl hl.1 rfl (Nat.le_of_ble_eq_true rfl) dX6_plain_25 ⟨by show _ ≤ kc; omega, by show _ ≤ ks; omega⟩) V (fun H locs V => ?_)
        cases hf
        exact y_out X V htE okX8 ht18 (by omega) (by omega)
      · rw [hr_17] at hk_14
        have hm := zX6_plain_rX20_b28 hrz hf
        refine y_afterR (y_runU (pc := 25) (As := []) (rest := []) X V (mX6_positive_rX20 l D dA s0 hrc hrz (kc := Z10 - Z) (ks := S11 - S) (Nat.le_refl _) (Nat.le_refl _) hk_14) okX20 ht5 q1055 q1057 q1059 q1056 q133 q1060 rfl hsX6_positive_rX20 ⟨by dsimp only; omega, by dsimp only; omega⟩ rfl hl.1 rfl (Nat.le_of_ble_eq_true rfl) dX6_plain_25 ⟨by show _ ≤ kc; omega, by show _ ≤ ks; omega⟩) V (fun H locs V => W.eq (g2 := F0 m 28 ls [.ref v16]) rfl ?_)
        exact wX6_plain_rX20_b28 X hr htE hrc hrz hf V (lv_sub hl [1] rfl) ⟨by omega, by omega⟩
    · replace hf := if_f hf c6
      refine lv_iload_n (pc := 11) hx hb dX6_plain_11 rfl (lv_at hl 1 rfl) ?_
      refine lv_if_ne (pc := 12) (tgt := 19) hx hb dX6_plain_12 (by decide) (fun c19 => ?_) (fun c19 => ?_)
      · replace hf := if_f hf c19
        refine lv_iconst (pc := 19) (v := (ii 0)) hx hb dX6_plain_19 (by decide) ?_
        refine lv_istore_n (pc := 20) (lv' := [(1, .int (ii 0)), (0, .ref x0)]) hx hb dX6_plain_20 rfl hl (by decide) rfl (fun ls hl => ?_)
        refine lv_goto (pc := 21) (tgt := 2) hx hb dX6_plain_21 (by decide) ?_
        exact ih hf V (lv_sub hl [1, 0] rfl) ⟨by omega, by omega⟩
      · replace hf := if_t hf c19
        refine lv_iconst (pc := 15) (v := (ii 1)) hx hb dX6_plain_15 (by decide) ?_
        refine lv_goto (pc := 16) (tgt := 20) hx hb dX6_plain_16 (by decide) ?_
        refine lv_istore_n (pc := 20) (lv' := [(1, .int (ii 1)), (0, .ref x0)]) hx hb dX6_plain_20 rfl hl (by decide) rfl (fun ls hl => ?_)
        refine lv_goto (pc := 21) (tgt := 2) hx hb dX6_plain_21 (by decide) ?_
        exact ih hf V (lv_sub hl [1, 0] rfl) ⟨by omega, by omega⟩
set_option maxHeartbeats 400000 in
set_option maxRecDepth 100000 in
theorem zX6_plain_rX20 {nf : Nat} {rc : (Nat → Option Nat) → xT → xT → Nat → Nat → xI → xL → xR → Nat → Option ((Nat ⊕ Nat) × xT × xT × Nat × Nat × xI × xR)} {dA : Nat → ClassId} {T : xT} {N : xT} {Z : Nat} {S : Nat} {I : xI} {L : xL} {R : xR} {x0 : Nat} {ro : (Nat ⊕ Nat)} {To : xT} {No : xT} {Zo : Nat} {So : Nat} {Io : xI} {Ro : xR} (hrz : Mon_X6_test_rX20 rc) (hf : fX6_plain_rX20 nf rc (sv dA) T N Z S I L R x0 = some (ro, To, No, Zo, So, Io, Ro)) : Z ≤ Zo ∧ S ≤ So := by
  unfold fX6_plain_rX20 at hf
  have hm := zX6_plain_rX20_b2 hrz nf hf
  exact ⟨by omega, by omega⟩
set_option maxHeartbeats 400000 in
set_option maxRecDepth 100000 in
theorem wX6_plain_rX20_e {nf : Nat} {fd ld : Nat} {rc : (Nat → Option Nat) → xT → xT → Nat → Nat → xI → xL → xR → Nat → Option ((Nat ⊕ Nat) × xT × xT × Nat × Nat × xI × xR)} {kc ks : Nat} {cells slots : Nat} {p : Program} {l : Launch} {e : Env} {s : State} {m : MethodId} {args : Array Value} {below : List Frame} {meth : Method} {c : Code} {D : va_G} {dA : Nat → ClassId} {s0 : Nat} {T : xT} {N : xT} {Z : Nat} {S : Nat} {I : xI} {L : xL} {R : xR} {H : Heap} {locs : List Loc} {ls : Array Slot} {x0 : Nat} {ro : (Nat ⊕ Nat)} {To : xT} {No : xT} {Zo : Nat} {So : Nat} {Io : xI} {Ro : xR} (X : Cx D dA s0 p m c cX6_plain 3 s args RX6 meth) (hr : meth.sig.returnType = (some (.object "LostLanes$Test"))) (htE : c.exceptionTable.toList = []) (hrc : Con_X6_test_rX20 l D dA s0 fd ld rc) (hrz : Mon_X6_test_rX20 rc)  (hf : fX6_plain_rX20 nf rc (sv dA) T N Z S I L R x0 = some (ro, To, No, Zo, So, Io, Ro)) (V : Iv D dA s0 s T N Z I L R H locs) (hl : lv_has ls 3 [(0, .ref x0)]) (hB : cells + (Zo - Z) ≤ kc ∧ slots + (So - S) ≤ ks) : W p l e { frames := fd + 122, cells := kc, slots := ks, locals := ld + 2612 } s m args below meth c H locs cells slots (vx_MQ below (yQ D dA s0 (rA_ ro) To No Zo Io L Ro) (yX D dA s0 (rA_ ro) To No Zo Io L Ro) args s kc ks (fun q => s0 ≤ q)) (F0 m 0 ls []) := by
  have hx := X.1.1
  have hb := X.1.2.1
  unfold fX6_plain_rX20 at hf
  refine lv_iconst (pc := 0) (v := (ii 0)) hx hb dX6_plain_0 (by decide) ?_
  refine lv_istore_n (pc := 1) (lv' := [(1, .int (ii 0)), (0, .ref x0)]) hx hb dX6_plain_1 rfl hl (by decide) rfl (fun ls hl => ?_)
  exact wX6_plain_rX20_b2 X hr htE hrc hrz nf hf V (lv_sub hl [1, 0] rfl) ⟨by omega, by omega⟩
theorem mX6_plain_rX20 {nf : Nat} {fd ld : Nat} {rc : (Nat → Option Nat) → xT → xT → Nat → Nat → xI → xL → xR → Nat → Option ((Nat ⊕ Nat) × xT × xT × Nat × Nat × xI × xR)} (l : Launch) (D : va_G) (dA : Nat → ClassId) (s0 : Nat) {kc ks : Nat} {T : xT} {N : xT} {Z : Nat} {S : Nat} {I : xI} {L : xL} {R : xR} {x0 : Nat} {ro : (Nat ⊕ Nat)} {To : xT} {No : xT} {Zo : Nat} {So : Nat} {Io : xI} {Ro : xR} (hrc : Con_X6_test_rX20 l D dA s0 fd ld rc) (hrz : Mon_X6_test_rX20 rc) (hZ : Zo - Z ≤ kc) (hS : So - S ≤ ks) (hf : fX6_plain_rX20 nf rc (sv dA) T N Z S I L R x0 = some (ro, To, No, Zo, So, Io, Ro)) : YMet l D dA s0 yX6_plain (ws_ yX6_plain cX6_plain 3 ((some (.object "LostLanes$Test")))) (fd + 122) (ld + 2612) [.ref x0] T N Z I L R (rA_ ro) To No Zo Io L Ro kc ks :=
  y_start (own := RX6) rfl (by decide) (Nat.le_of_ble_eq_true rfl) (lv := [(0, .ref x0)]) rfl (fun p e s m below meth c ls X hr htE V hl => wX6_plain_rX20_e X hr htE hrc hrz hf V hl ⟨by omega, by omega⟩)
set_option maxHeartbeats 400000 in
set_option maxRecDepth 100000 in
theorem zX6_both_rX20_b54 {nf : Nat} {rc : (Nat → Option Nat) → xT → xT → Nat → Nat → xI → xL → xR → Nat → Option ((Nat ⊕ Nat) × xT × xT × Nat × Nat × xI × xR)} {dA : Nat → ClassId} {T : xT} {N : xT} {Z : Nat} {S : Nat} {I : xI} {L : xL} {R : xR} {kk34 : xT → xT → Nat → Nat → xI → xR → Nat → Nat → Option ((Nat ⊕ Nat) × xT × xT × Nat × Nat × xI × xR)} {x0 : Nat} {x2 : Nat} {z0 : Int32} {ro : (Nat ⊕ Nat)} {To : xT} {No : xT} {Zo : Nat} {So : Nat} {Io : xI} {Ro : xR} (hrz : Mon_X6_test_rX20 rc) (hm34 : ∀ {T : xT} {N : xT} {Z : Nat} {S : Nat} {I : xI} {R : xR} {x0 : Nat} {x2 : Nat}, kk34 T N Z S I R x0 x2 = some (ro, To, No, Zo, So, Io, Ro) → Z ≤ Zo ∧ S ≤ So) (hf : fX6_both_rX20_b54 nf rc kk34 (sv dA) T N Z S I L R x0 x2 z0 = some (ro, To, No, Zo, So, Io, Ro)) : Z ≤ Zo ∧ S ≤ So := by
  unfold fX6_both_rX20_b54 at hf
  have hm := hm34 hf
  exact ⟨by omega, by omega⟩
set_option maxHeartbeats 400000 in
set_option maxRecDepth 100000 in
theorem wX6_both_rX20_b54 {nf : Nat} {fd ld : Nat} {rc : (Nat → Option Nat) → xT → xT → Nat → Nat → xI → xL → xR → Nat → Option ((Nat ⊕ Nat) × xT × xT × Nat × Nat × xI × xR)} {kc ks : Nat} {cells slots : Nat} {p : Program} {l : Launch} {e : Env} {s : State} {m : MethodId} {args : Array Value} {below : List Frame} {meth : Method} {c : Code} {D : va_G} {dA : Nat → ClassId} {s0 : Nat} {T : xT} {N : xT} {Z : Nat} {S : Nat} {I : xI} {L : xL} {R : xR} {H : Heap} {locs : List Loc} {ls : Array Slot} {kk34 : xT → xT → Nat → Nat → xI → xR → Nat → Nat → Option ((Nat ⊕ Nat) × xT × xT × Nat × Nat × xI × xR)} {x0 : Nat} {x2 : Nat} {z0 : Int32} {ro : (Nat ⊕ Nat)} {To : xT} {No : xT} {Zo : Nat} {So : Nat} {Io : xI} {Ro : xR} (X : Cx D dA s0 p m c cX6_both 3 s args RX6 meth) (hr : meth.sig.returnType = (some (.object "LostLanes$Test"))) (htE : c.exceptionTable.toList = []) (hrc : Con_X6_test_rX20 l D dA s0 fd ld rc) (hrz : Mon_X6_test_rX20 rc)  (hk34 : ∀ {T : xT} {N : xT} {Z : Nat} {S : Nat} {I : xI} {R : xR} {x0 : Nat} {x2 : Nat} {H : Heap} {locs : List Loc} {ls : Array Slot} {cells slots : Nat} , kk34 T N Z S I R x0 x2 = some (ro, To, No, Zo, So, Io, Ro) → Iv D dA s0 s T N Z I L R H locs → lv_has ls 3 [(0, .ref x0), (2, .ref x2)] → cells + (Zo - Z) ≤ kc ∧ slots + (So - S) ≤ ks → W p l e { frames := fd + 123, cells := kc, slots := ks, locals := ld + 2634 } s m args below meth c H locs cells slots (vx_MQ below (yQ D dA s0 (rA_ ro) To No Zo Io L Ro) (yX D dA s0 (rA_ ro) To No Zo Io L Ro) args s kc ks (fun q => s0 ≤ q)) (F0 m 34 ls [])) (hm34 : ∀ {T : xT} {N : xT} {Z : Nat} {S : Nat} {I : xI} {R : xR} {x0 : Nat} {x2 : Nat}, kk34 T N Z S I R x0 x2 = some (ro, To, No, Zo, So, Io, Ro) → Z ≤ Zo ∧ S ≤ So) (hf : fX6_both_rX20_b54 nf rc kk34 (sv dA) T N Z S I L R x0 x2 z0 = some (ro, To, No, Zo, So, Io, Ro)) (V : Iv D dA s0 s T N Z I L R H locs) (hl : lv_has ls 3 [(0, .ref x0), (2, .ref x2)]) (hB : cells + (Zo - Z) ≤ kc ∧ slots + (So - S) ≤ ks) : W p l e { frames := fd + 123, cells := kc, slots := ks, locals := ld + 2634 } s m args below meth c H locs cells slots (vx_MQ below (yQ D dA s0 (rA_ ro) To No Zo Io L Ro) (yX D dA s0 (rA_ ro) To No Zo Io L Ro) args s kc ks (fun q => s0 ≤ q)) (F0 m 54 ls [.int z0]) := by
  have hx := X.1.1
  have hb := X.1.2.1
  unfold fX6_both_rX20_b54 at hf
  refine lv_pop (pc := 54) hx hb dX6_both_54 rfl ?_
  refine lv_goto (pc := 55) (tgt := 34) hx hb dX6_both_55 (by decide) ?_
  exact hk34 hf V (lv_sub hl [0, 1] rfl) ⟨by omega, by omega⟩
set_option maxHeartbeats 400000 in
set_option maxRecDepth 100000 in
theorem zX6_both_rX20_b51 {nf : Nat} {rc : (Nat → Option Nat) → xT → xT → Nat → Nat → xI → xL → xR → Nat → Option ((Nat ⊕ Nat) × xT × xT × Nat × Nat × xI × xR)} {dA : Nat → ClassId} {T : xT} {N : xT} {Z : Nat} {S : Nat} {I : xI} {L : xL} {R : xR} {kk34 : xT → xT → Nat → Nat → xI → xR → Nat → Nat → Option ((Nat ⊕ Nat) × xT × xT × Nat × Nat × xI × xR)} {x0 : Nat} {x2 : Nat} {z0 : Nat} {z1 : Nat} {ro : (Nat ⊕ Nat)} {To : xT} {No : xT} {Zo : Nat} {So : Nat} {Io : xI} {Ro : xR} (hrz : Mon_X6_test_rX20 rc) (hm34 : ∀ {T : xT} {N : xT} {Z : Nat} {S : Nat} {I : xI} {R : xR} {x0 : Nat} {x2 : Nat}, kk34 T N Z S I R x0 x2 = some (ro, To, No, Zo, So, Io, Ro) → Z ≤ Zo ∧ S ≤ So) (hf : fX6_both_rX20_b51 nf rc kk34 (sv dA) T N Z S I L R x0 x2 z0 z1 = some (ro, To, No, Zo, So, Io, Ro)) : Z ≤ Zo ∧ S ≤ So := by
  unfold fX6_both_rX20_b51 at hf
  replace hf := tg_s hf; obtain ⟨ht9, hf⟩ := hf
  replace hf := b7s hf; obtain ⟨r1, T2, N3, Z4, S5, I6, R7, hk_8, hf⟩ := hf
  have hm_hk_8 := zJ2_add hk_8
  have hm := zX6_both_rX20_b54 hrz hm34 hf
  exact ⟨by omega, by omega⟩
set_option maxHeartbeats 400000 in
set_option maxRecDepth 100000 in
theorem wX6_both_rX20_b51 {nf : Nat} {fd ld : Nat} {rc : (Nat → Option Nat) → xT → xT → Nat → Nat → xI → xL → xR → Nat → Option ((Nat ⊕ Nat) × xT × xT × Nat × Nat × xI × xR)} {kc ks : Nat} {cells slots : Nat} {p : Program} {l : Launch} {e : Env} {s : State} {m : MethodId} {args : Array Value} {below : List Frame} {meth : Method} {c : Code} {D : va_G} {dA : Nat → ClassId} {s0 : Nat} {T : xT} {N : xT} {Z : Nat} {S : Nat} {I : xI} {L : xL} {R : xR} {H : Heap} {locs : List Loc} {ls : Array Slot} {kk34 : xT → xT → Nat → Nat → xI → xR → Nat → Nat → Option ((Nat ⊕ Nat) × xT × xT × Nat × Nat × xI × xR)} {x0 : Nat} {x2 : Nat} {z0 : Nat} {z1 : Nat} {ro : (Nat ⊕ Nat)} {To : xT} {No : xT} {Zo : Nat} {So : Nat} {Io : xI} {Ro : xR} (X : Cx D dA s0 p m c cX6_both 3 s args RX6 meth) (hr : meth.sig.returnType = (some (.object "LostLanes$Test"))) (htE : c.exceptionTable.toList = []) (hrc : Con_X6_test_rX20 l D dA s0 fd ld rc) (hrz : Mon_X6_test_rX20 rc)  (hk34 : ∀ {T : xT} {N : xT} {Z : Nat} {S : Nat} {I : xI} {R : xR} {x0 : Nat} {x2 : Nat} {H : Heap} {locs : List Loc} {ls : Array Slot} {cells slots : Nat} , kk34 T N Z S I R x0 x2 = some (ro, To, No, Zo, So, Io, Ro) → Iv D dA s0 s T N Z I L R H locs → lv_has ls 3 [(0, .ref x0), (2, .ref x2)] → cells + (Zo - Z) ≤ kc ∧ slots + (So - S) ≤ ks → W p l e { frames := fd + 123, cells := kc, slots := ks, locals := ld + 2634 } s m args below meth c H locs cells slots (vx_MQ below (yQ D dA s0 (rA_ ro) To No Zo Io L Ro) (yX D dA s0 (rA_ ro) To No Zo Io L Ro) args s kc ks (fun q => s0 ≤ q)) (F0 m 34 ls [])) (hm34 : ∀ {T : xT} {N : xT} {Z : Nat} {S : Nat} {I : xI} {R : xR} {x0 : Nat} {x2 : Nat}, kk34 T N Z S I R x0 x2 = some (ro, To, No, Zo, So, Io, Ro) → Z ≤ Zo ∧ S ≤ So) (hf : fX6_both_rX20_b51 nf rc kk34 (sv dA) T N Z S I L R x0 x2 z0 z1 = some (ro, To, No, Zo, So, Io, Ro)) (V : Iv D dA s0 s T N Z I L R H locs) (hl : lv_has ls 3 [(0, .ref x0), (2, .ref x2)]) (hB : cells + (Zo - Z) ≤ kc ∧ slots + (So - S) ≤ ks) : W p l e { frames := fd + 123, cells := kc, slots := ks, locals := ld + 2634 } s m args below meth c H locs cells slots (vx_MQ below (yQ D dA s0 (rA_ ro) To No Zo Io L Ro) (yX D dA s0 (rA_ ro) To No Zo Io L Ro) args s kc ks (fun q => s0 ≤ q)) (F0 m 51 ls [.ref z1, .ref z0]) := by
  have hx := X.1.1
  have hb := X.1.2.1
  unfold fX6_both_rX20_b51 at hf
  replace hf := tg_s hf; obtain ⟨ht9, hf⟩ := hf
  replace hf := b7s hf; obtain ⟨r1, T2, N3, Z4, S5, I6, R7, hk_8, hf⟩ := hf
  have hm_hk_8 := zJ2_add hk_8
  have hm := zX6_both_rX20_b54 hrz hm34 hf
  refine x_callV (pc := 51) (As := [.ref z1]) (rest := []) X V (mJ2_add l D dA s0 (kc := Z4 - Z) (ks := S5 - S) (Nat.le_refl _) (Nat.le_refl _) hk_8) okJ2 ht9 q1113 q1114 q1115 q124 q1116 ⟨rfl, hsJ2_add⟩ ⟨by dsimp only; omega, by dsimp only; omega⟩ rfl hl.1 rfl (Nat.le_of_ble_eq_true rfl) dX6_both_51 ⟨by show _ ≤ kc; omega, by show _ ≤ ks; omega⟩ (fun H locs V => W.eq (g2 := F0 m 54 ls [.int r1]) rfl ?_)
  exact wX6_both_rX20_b54 X hr htE hrc hrz hk34 hm34 hf V (lv_sub hl [0, 1] rfl) ⟨by omega, by omega⟩
set_option maxHeartbeats 400000 in
set_option maxRecDepth 100000 in
theorem zX6_both_rX20_b34 {nf : Nat} {rc : (Nat → Option Nat) → xT → xT → Nat → Nat → xI → xL → xR → Nat → Option ((Nat ⊕ Nat) × xT × xT × Nat × Nat × xI × xR)} {dA : Nat → ClassId} {L : xL}  {ro : (Nat ⊕ Nat)} {To : xT} {No : xT} {Zo : Nat} {So : Nat} {Io : xI} {Ro : xR} (hrz : Mon_X6_test_rX20 rc)  (k : Nat) : ∀ {T : xT} {N : xT} {Z : Nat} {S : Nat} {I : xI} {R : xR} {x0 : Nat} {x2 : Nat}, fX6_both_rX20_b34 nf rc (sv dA) L k T N Z S I R x0 x2 = some (ro, To, No, Zo, So, Io, Ro) → Z ≤ Zo ∧ S ≤ So := by
  induction k with
  | zero =>
    intro T N Z S I R x0 x2 hf
    exact absurd (show none = some _ from hf) (fun q => nomatch q)
  | succ k ih =>
    intro T N Z S I R x0 x2 hf
    rw [fX6_both_rX20_b34] at hf
    replace hf := bs hf; obtain ⟨a1, ha1, hf⟩ := hf
    replace hf := tg_s hf; obtain ⟨ht5, hf⟩ := hf
    replace hf := b2s hf; obtain ⟨r2, I3, hk_4, hf⟩ := hf
    rcases (Decidable.em (r2 = (ii 0))) with c6 | c6
    · replace hf := if_t hf c6
      cases hf
      exact ⟨Nat.le_refl _, Nat.le_refl _⟩
    · replace hf := if_f hf c6
      replace hf := tg_s hf; obtain ⟨ht7, hf⟩ := hf
      replace hf := bs hf; obtain ⟨a8, ha8, hf⟩ := hf
      replace hf := b7s hf; obtain ⟨r9, T10, N11, Z12, S13, I14, R15, hk_16, hf⟩ := hf
      have hm_hk_16 := zX6_plain_rX20 hrz hk_16
      replace hf := xc_s hf; rcases hf with ⟨a17, hr_19, hf⟩ | ⟨v18, hr_19, hf⟩
      · skip
        replace hf := tg_s hf; obtain ⟨ht20, hf⟩ := hf
        cases hf
        exact ⟨by omega, by omega⟩
      · skip
        have hm := zX6_both_rX20_b51 hrz ih hf
        exact ⟨by omega, by omega⟩
set_option maxHeartbeats 400000 in
set_option maxRecDepth 100000 in
theorem wX6_both_rX20_b34 {nf : Nat} {fd ld : Nat} {rc : (Nat → Option Nat) → xT → xT → Nat → Nat → xI → xL → xR → Nat → Option ((Nat ⊕ Nat) × xT × xT × Nat × Nat × xI × xR)} {kc ks : Nat} {p : Program} {l : Launch} {e : Env} {s : State} {m : MethodId} {args : Array Value} {below : List Frame} {meth : Method} {c : Code} {D : va_G} {dA : Nat → ClassId} {s0 : Nat} {L : xL}  {ro : (Nat ⊕ Nat)} {To : xT} {No : xT} {Zo : Nat} {So : Nat} {Io : xI} {Ro : xR} (X : Cx D dA s0 p m c cX6_both 3 s args RX6 meth) (hr : meth.sig.returnType = (some (.object "LostLanes$Test"))) (htE : c.exceptionTable.toList = []) (hrc : Con_X6_test_rX20 l D dA s0 fd ld rc) (hrz : Mon_X6_test_rX20 rc)    (k : Nat) : ∀ {T : xT} {N : xT} {Z : Nat} {S : Nat} {I : xI} {R : xR} {x0 : Nat} {x2 : Nat} {H : Heap} {locs : List Loc} {ls : Array Slot} {cells slots : Nat} , fX6_both_rX20_b34 nf rc (sv dA) L k T N Z S I R x0 x2 = some (ro, To, No, Zo, So, Io, Ro) → Iv D dA s0 s T N Z I L R H locs → lv_has ls 3 [(0, .ref x0), (2, .ref x2)] → cells + (Zo - Z) ≤ kc ∧ slots + (So - S) ≤ ks → W p l e { frames := fd + 123, cells := kc, slots := ks, locals := ld + 2634 } s m args below meth c H locs cells slots (vx_MQ below (yQ D dA s0 (rA_ ro) To No Zo Io L Ro) (yX D dA s0 (rA_ ro) To No Zo Io L Ro) args s kc ks (fun q => s0 ≤ q)) (F0 m 34 ls []) := by
  have hx := X.1.1
  have hb := X.1.2.1
  induction k with
  | zero =>
    intro T N Z S I R x0 x2 H locs ls cells slots hf V hl hB
    exact absurd (show none = some _ from hf) (fun q => nomatch q)
  | succ k ih =>
    intro T N Z S I R x0 x2 H locs ls cells slots hf V hl hB
    have ihm : ∀ {T : xT} {N : xT} {Z : Nat} {S : Nat} {I : xI} {R : xR} {x0 : Nat} {x2 : Nat}, fX6_both_rX20_b34 nf rc (sv dA) L k T N Z S I R x0 x2 = some (ro, To, No, Zo, So, Io, Ro) → Z ≤ Zo ∧ S ≤ So := zX6_both_rX20_b34 hrz k
    rw [fX6_both_rX20_b34] at hf
    refine lv_aload_n (pc := 34) hx hb dX6_both_34 rfl (lv_at hl 0 rfl) ?_
    replace hf := bs hf; obtain ⟨a1, ha1, hf⟩ := hf
    refine x_ldcS (pc := 35) X 33 rfl ha1 dX6_both_35 ?_
    replace hf := tg_s hf; obtain ⟨ht5, hf⟩ := hf
    replace hf := b2s hf; obtain ⟨r2, I3, hk_4, hf⟩ := hf
    refine x_callU (pc := 37) (As := [.ref a1]) (rest := []) X V (mX6_takes_rX20 l D dA s0 hk_4) okX20 ht5 q931 q933 q935 q932 q133 q936 rfl hsX6_takes_rX20 ⟨by dsimp only; omega, by dsimp only; omega⟩ rfl hl.1 rfl (Nat.le_of_ble_eq_true rfl) dX6_both_37 ⟨by show cells ≤ kc; omega, by show slots ≤ ks; omega⟩ (fun H locs V => W.eq (g2 := F0 m 40 ls [.int r2]) rfl ?_)
    refine lv_if_eq (pc := 40) (tgt := 58) hx hb dX6_both_40 (by decide) (fun c6 => ?_) (fun c6 => ?_)
    · replace hf := if_t hf c6
      refine lv_aload_n (pc := 58) hx hb dX6_both_58 rfl (lv_at hl 1 rfl) ?_
      cases hf
      exact y_aret (pc := 59) X V hr (by omega) (by omega) (Or.inl ⟨_, rfl⟩) dX6_both_59
    · replace hf := if_f hf c6
      refine lv_aload_n (pc := 43) hx hb dX6_both_43 rfl (lv_at hl 1 rfl) ?_
      replace hf := tg_s hf; obtain ⟨ht7, hf⟩ := hf
      replace hf := bs hf; obtain ⟨a8, ha8, hf⟩ := hf
      refine x_getN (pc := 44) X V okX17 ht7 1 (by decide) q1107 (v := va_rf (R x2 1)) rfl dX6_both_44 ?_
      refine x_topr ha8 ?_
      refine lv_aload_n (pc := 47) hx hb dX6_both_47 rfl (lv_at hl 0 rfl) ?_
      replace hf := b7s hf; obtain ⟨r9, T10, N11, Z12, S13, I14, R15, hk_16, hf⟩ := hf
      have hm_hk_16 := zX6_plain_rX20 hrz hk_16
      replace hf := xc_s hf; rcases hf with ⟨a17, hr_19, hf⟩ | ⟨v18, hr_19, hf⟩
      · rw [hr_19] at hk_16
        replace hf := tg_s hf; obtain ⟨ht20, hf⟩ := hf
        have hzE : Z12 = Zo := by cases hf; rfl
        have hsE : S13 = So := by cases hf; rfl
        refine y_afterX (y_runU (pc := 48) (As := []) (rest := [.ref a8]) X V (mX6_plain_rX20 l D dA s0 hrc hrz (kc := Z12 - Z) (ks := S13 - S) (Nat.le_refl _) (Nat.le_refl _) hk_16) okX20 ht5 q1048 q1050 q1052 q1049 q133 q1053 rfl hsX6_plain_rX20 ⟨by dsimp only; omega, by dsimp only; omega⟩ rfl hl.1 rfl (Nat.le_of_ble_eq_true rfl) dX6_both_48 ⟨by show _ ≤ kc; omega, by show _ ≤ ks; omega⟩) V (fun H locs V => ?_)
        cases hf
        exact y_out X V htE okX8 ht20 (by omega) (by omega)
      · rw [hr_19] at hk_16
        have hm := zX6_both_rX20_b51 hrz ihm hf
        refine y_afterR (y_runU (pc := 48) (As := []) (rest := [.ref a8]) X V (mX6_plain_rX20 l D dA s0 hrc hrz (kc := Z12 - Z) (ks := S13 - S) (Nat.le_refl _) (Nat.le_refl _) hk_16) okX20 ht5 q1048 q1050 q1052 q1049 q133 q1053 rfl hsX6_plain_rX20 ⟨by dsimp only; omega, by dsimp only; omega⟩ rfl hl.1 rfl (Nat.le_of_ble_eq_true rfl) dX6_both_48 ⟨by show _ ≤ kc; omega, by show _ ≤ ks; omega⟩) V (fun H locs V => W.eq (g2 := F0 m 51 ls [.ref v18, .ref a8]) rfl ?_)
        exact wX6_both_rX20_b51 X hr htE hrc hrz ih ihm hf V (lv_sub hl [0, 1] rfl) ⟨by omega, by omega⟩
set_option maxHeartbeats 400000 in
set_option maxRecDepth 100000 in
theorem zX6_both_rX20_b33 {nf : Nat} {rc : (Nat → Option Nat) → xT → xT → Nat → Nat → xI → xL → xR → Nat → Option ((Nat ⊕ Nat) × xT × xT × Nat × Nat × xI × xR)} {dA : Nat → ClassId} {T : xT} {N : xT} {Z : Nat} {S : Nat} {I : xI} {L : xL} {R : xR}  {x0 : Nat} {x2 : Nat} {z0 : Int32} {ro : (Nat ⊕ Nat)} {To : xT} {No : xT} {Zo : Nat} {So : Nat} {Io : xI} {Ro : xR} (hrz : Mon_X6_test_rX20 rc)  (hf : fX6_both_rX20_b33 nf rc (sv dA) T N Z S I L R x0 x2 z0 = some (ro, To, No, Zo, So, Io, Ro)) : Z ≤ Zo ∧ S ≤ So := by
  unfold fX6_both_rX20_b33 at hf
  have hm := zX6_both_rX20_b34 hrz nf hf
  exact ⟨by omega, by omega⟩
set_option maxHeartbeats 400000 in
set_option maxRecDepth 100000 in
theorem wX6_both_rX20_b33 {nf : Nat} {fd ld : Nat} {rc : (Nat → Option Nat) → xT → xT → Nat → Nat → xI → xL → xR → Nat → Option ((Nat ⊕ Nat) × xT × xT × Nat × Nat × xI × xR)} {kc ks : Nat} {cells slots : Nat} {p : Program} {l : Launch} {e : Env} {s : State} {m : MethodId} {args : Array Value} {below : List Frame} {meth : Method} {c : Code} {D : va_G} {dA : Nat → ClassId} {s0 : Nat} {T : xT} {N : xT} {Z : Nat} {S : Nat} {I : xI} {L : xL} {R : xR} {H : Heap} {locs : List Loc} {ls : Array Slot}  {x0 : Nat} {x2 : Nat} {z0 : Int32} {ro : (Nat ⊕ Nat)} {To : xT} {No : xT} {Zo : Nat} {So : Nat} {Io : xI} {Ro : xR} (X : Cx D dA s0 p m c cX6_both 3 s args RX6 meth) (hr : meth.sig.returnType = (some (.object "LostLanes$Test"))) (htE : c.exceptionTable.toList = []) (hrc : Con_X6_test_rX20 l D dA s0 fd ld rc) (hrz : Mon_X6_test_rX20 rc)    (hf : fX6_both_rX20_b33 nf rc (sv dA) T N Z S I L R x0 x2 z0 = some (ro, To, No, Zo, So, Io, Ro)) (V : Iv D dA s0 s T N Z I L R H locs) (hl : lv_has ls 3 [(0, .ref x0), (2, .ref x2)]) (hB : cells + (Zo - Z) ≤ kc ∧ slots + (So - S) ≤ ks) : W p l e { frames := fd + 123, cells := kc, slots := ks, locals := ld + 2634 } s m args below meth c H locs cells slots (vx_MQ below (yQ D dA s0 (rA_ ro) To No Zo Io L Ro) (yX D dA s0 (rA_ ro) To No Zo Io L Ro) args s kc ks (fun q => s0 ≤ q)) (F0 m 33 ls [.int z0]) := by
  have hx := X.1.1
  have hb := X.1.2.1
  unfold fX6_both_rX20_b33 at hf
  refine lv_pop (pc := 33) hx hb dX6_both_33 rfl ?_
  exact wX6_both_rX20_b34 X hr htE hrc hrz nf hf V (lv_sub hl [0, 1] rfl) ⟨by omega, by omega⟩
set_option maxHeartbeats 400000 in
set_option maxRecDepth 100000 in
theorem zX6_both_rX20_b24 {nf : Nat} {rc : (Nat → Option Nat) → xT → xT → Nat → Nat → xI → xL → xR → Nat → Option ((Nat ⊕ Nat) × xT × xT × Nat × Nat × xI × xR)} {dA : Nat → ClassId} {T : xT} {N : xT} {Z : Nat} {S : Nat} {I : xI} {L : xL} {R : xR}  {x0 : Nat} {x1 : Nat} {z0 : Nat} {ro : (Nat ⊕ Nat)} {To : xT} {No : xT} {Zo : Nat} {So : Nat} {Io : xI} {Ro : xR} (hrz : Mon_X6_test_rX20 rc)  (hf : fX6_both_rX20_b24 nf rc (sv dA) T N Z S I L R x0 x1 z0 = some (ro, To, No, Zo, So, Io, Ro)) : Z ≤ Zo ∧ S ≤ So := by
  unfold fX6_both_rX20_b24 at hf
  replace hf := tg_s hf; obtain ⟨ht1, hf⟩ := hf
  replace hf := bs hf; obtain ⟨a2, ha2, hf⟩ := hf
  replace hf := tg_s hf; obtain ⟨ht11, hf⟩ := hf
  replace hf := b7s hf; obtain ⟨r3, T4, N5, Z6, S7, I8, R9, hk_10, hf⟩ := hf
  have hm_hk_10 := zJ2_add hk_10
  have hm := zX6_both_rX20_b33 hrz hf
  exact ⟨by omega, by omega⟩
set_option maxHeartbeats 400000 in
set_option maxRecDepth 100000 in
theorem wX6_both_rX20_b24 {nf : Nat} {fd ld : Nat} {rc : (Nat → Option Nat) → xT → xT → Nat → Nat → xI → xL → xR → Nat → Option ((Nat ⊕ Nat) × xT × xT × Nat × Nat × xI × xR)} {kc ks : Nat} {cells slots : Nat} {p : Program} {l : Launch} {e : Env} {s : State} {m : MethodId} {args : Array Value} {below : List Frame} {meth : Method} {c : Code} {D : va_G} {dA : Nat → ClassId} {s0 : Nat} {T : xT} {N : xT} {Z : Nat} {S : Nat} {I : xI} {L : xL} {R : xR} {H : Heap} {locs : List Loc} {ls : Array Slot}  {x0 : Nat} {x1 : Nat} {z0 : Nat} {ro : (Nat ⊕ Nat)} {To : xT} {No : xT} {Zo : Nat} {So : Nat} {Io : xI} {Ro : xR} (X : Cx D dA s0 p m c cX6_both 3 s args RX6 meth) (hr : meth.sig.returnType = (some (.object "LostLanes$Test"))) (htE : c.exceptionTable.toList = []) (hrc : Con_X6_test_rX20 l D dA s0 fd ld rc) (hrz : Mon_X6_test_rX20 rc)    (hf : fX6_both_rX20_b24 nf rc (sv dA) T N Z S I L R x0 x1 z0 = some (ro, To, No, Zo, So, Io, Ro)) (V : Iv D dA s0 s T N Z I L R H locs) (hl : lv_has ls 3 [(0, .ref x0), (1, .ref x1)]) (hB : cells + (Zo - Z) ≤ kc ∧ slots + (So - S) ≤ ks) : W p l e { frames := fd + 123, cells := kc, slots := ks, locals := ld + 2634 } s m args below meth c H locs cells slots (vx_MQ below (yQ D dA s0 (rA_ ro) To No Zo Io L Ro) (yX D dA s0 (rA_ ro) To No Zo Io L Ro) args s kc ks (fun q => s0 ≤ q)) (F0 m 24 ls [.ref z0]) := by
  have hx := X.1.1
  have hb := X.1.2.1
  unfold fX6_both_rX20_b24 at hf
  refine lv_astore_n (pc := 24) (lv' := [(2, .ref z0), (0, .ref x0), (1, .ref x1)]) hx hb dX6_both_24 rfl hl (by decide) rfl (fun ls hl => ?_)
  refine lv_aload_n (pc := 25) hx hb dX6_both_25 rfl (lv_at hl 0 rfl) ?_
  replace hf := tg_s hf; obtain ⟨ht1, hf⟩ := hf
  replace hf := bs hf; obtain ⟨a2, ha2, hf⟩ := hf
  refine x_getN (pc := 26) X V okX17 ht1 1 (by decide) q1107 (v := va_rf (R z0 1)) rfl dX6_both_26 ?_
  refine x_topr ha2 ?_
  refine lv_aload_n (pc := 29) hx hb dX6_both_29 rfl (lv_at hl 2 rfl) ?_
  replace hf := tg_s hf; obtain ⟨ht11, hf⟩ := hf
  replace hf := b7s hf; obtain ⟨r3, T4, N5, Z6, S7, I8, R9, hk_10, hf⟩ := hf
  have hm_hk_10 := zJ2_add hk_10
  have hm := zX6_both_rX20_b33 hrz hf
  refine x_callV (pc := 30) (As := [.ref x1]) (rest := []) X V (mJ2_add l D dA s0 (kc := Z6 - Z) (ks := S7 - S) (Nat.le_refl _) (Nat.le_refl _) hk_10) okJ2 ht11 q1113 q1114 q1115 q124 q1116 ⟨rfl, hsJ2_add⟩ ⟨by dsimp only; omega, by dsimp only; omega⟩ rfl hl.1 rfl (Nat.le_of_ble_eq_true rfl) dX6_both_30 ⟨by show _ ≤ kc; omega, by show _ ≤ ks; omega⟩ (fun H locs V => W.eq (g2 := F0 m 33 ls [.int r3]) rfl ?_)
  exact wX6_both_rX20_b33 X hr htE hrc hrz hf V (lv_sub hl [1, 0] rfl) ⟨by omega, by omega⟩
set_option maxHeartbeats 400000 in
set_option maxRecDepth 100000 in
theorem zX6_both_rX20_b19 {nf : Nat} {rc : (Nat → Option Nat) → xT → xT → Nat → Nat → xI → xL → xR → Nat → Option ((Nat ⊕ Nat) × xT × xT × Nat × Nat × xI × xR)} {dA : Nat → ClassId} {T : xT} {N : xT} {Z : Nat} {S : Nat} {I : xI} {L : xL} {R : xR}  {x0 : Nat} {x1 : Nat} {z0 : Nat} {ro : (Nat ⊕ Nat)} {To : xT} {No : xT} {Zo : Nat} {So : Nat} {Io : xI} {Ro : xR} (hrz : Mon_X6_test_rX20 rc)  (hf : fX6_both_rX20_b19 nf rc (sv dA) T N Z S I L R x0 x1 z0 = some (ro, To, No, Zo, So, Io, Ro)) : Z ≤ Zo ∧ S ≤ So := by
  unfold fX6_both_rX20_b19 at hf
  replace hf := b6s hf; obtain ⟨T1, N2, Z3, S4, I5, R6, hk_7, hf⟩ := hf
  have hm_hk_7 := zX17_init hk_7
  have hm := zX6_both_rX20_b24 hrz hf
  exact ⟨by omega, by omega⟩
set_option maxHeartbeats 400000 in
set_option maxRecDepth 100000 in
theorem wX6_both_rX20_b19 {nf : Nat} {fd ld : Nat} {rc : (Nat → Option Nat) → xT → xT → Nat → Nat → xI → xL → xR → Nat → Option ((Nat ⊕ Nat) × xT × xT × Nat × Nat × xI × xR)} {kc ks : Nat} {cells slots : Nat} {p : Program} {l : Launch} {e : Env} {s : State} {m : MethodId} {args : Array Value} {below : List Frame} {meth : Method} {c : Code} {D : va_G} {dA : Nat → ClassId} {s0 : Nat} {T : xT} {N : xT} {Z : Nat} {S : Nat} {I : xI} {L : xL} {R : xR} {H : Heap} {locs : List Loc} {ls : Array Slot}  {x0 : Nat} {x1 : Nat} {z0 : Nat} {ro : (Nat ⊕ Nat)} {To : xT} {No : xT} {Zo : Nat} {So : Nat} {Io : xI} {Ro : xR} (X : Cx D dA s0 p m c cX6_both 3 s args RX6 meth) (hr : meth.sig.returnType = (some (.object "LostLanes$Test"))) (htE : c.exceptionTable.toList = []) (hrc : Con_X6_test_rX20 l D dA s0 fd ld rc) (hrz : Mon_X6_test_rX20 rc)    (hf : fX6_both_rX20_b19 nf rc (sv dA) T N Z S I L R x0 x1 z0 = some (ro, To, No, Zo, So, Io, Ro)) (V : Iv D dA s0 s T N Z I L R H locs) (hl : lv_has ls 3 [(0, .ref x0), (1, .ref x1)]) (hB : cells + (Zo - Z) ≤ kc ∧ slots + (So - S) ≤ ks) : W p l e { frames := fd + 123, cells := kc, slots := ks, locals := ld + 2634 } s m args below meth c H locs cells slots (vx_MQ below (yQ D dA s0 (rA_ ro) To No Zo Io L Ro) (yX D dA s0 (rA_ ro) To No Zo Io L Ro) args s kc ks (fun q => s0 ≤ q)) (F0 m 19 ls [.ref z0]) := by
  have hx := X.1.1
  have hb := X.1.2.1
  unfold fX6_both_rX20_b19 at hf
  refine lv_dup (pc := 19) hx hb dX6_both_19 rfl ?_
  refine lv_iconst (pc := 20) (v := (ii 1)) hx hb dX6_both_20 (by decide) ?_
  replace hf := b6s hf; obtain ⟨T1, N2, Z3, S4, I5, R6, hk_7, hf⟩ := hf
  have hm_hk_7 := zX17_init hk_7
  have hm := zX6_both_rX20_b24 hrz hf
  refine x_callI (pc := 21) (As := [.int (ii 1)]) (rest := [.ref z0]) X V (mX17_init l D dA s0 (kc := Z3 - Z) (ks := S4 - S) (Nat.le_refl _) (Nat.le_refl _) hk_7) q1099 q1100 q147 q1101 rfl hsX17_init ⟨by dsimp only; omega, by dsimp only; omega⟩ rfl hl.1 rfl (Nat.le_of_ble_eq_true rfl) dX6_both_21 ⟨by show _ ≤ kc; omega, by show _ ≤ ks; omega⟩ (fun H locs V => W.eq (g2 := F0 m 24 ls [.ref z0]) rfl ?_)
  exact wX6_both_rX20_b24 X hr htE hrc hrz hf V (lv_sub hl [0, 1] rfl) ⟨by omega, by omega⟩
set_option maxHeartbeats 400000 in
set_option maxRecDepth 100000 in
theorem zX6_both_rX20_b4 {nf : Nat} {rc : (Nat → Option Nat) → xT → xT → Nat → Nat → xI → xL → xR → Nat → Option ((Nat ⊕ Nat) × xT × xT × Nat × Nat × xI × xR)} {dA : Nat → ClassId} {T : xT} {N : xT} {Z : Nat} {S : Nat} {I : xI} {L : xL} {R : xR}  {x0 : Nat} {z0 : Nat} {ro : (Nat ⊕ Nat)} {To : xT} {No : xT} {Zo : Nat} {So : Nat} {Io : xI} {Ro : xR} (hrz : Mon_X6_test_rX20 rc)  (hf : fX6_both_rX20_b4 nf rc (sv dA) T N Z S I L R x0 z0 = some (ro, To, No, Zo, So, Io, Ro)) : Z ≤ Zo ∧ S ≤ So := by
  unfold fX6_both_rX20_b4 at hf
  replace hf := bs hf; obtain ⟨a1, ha1, hf⟩ := hf
  replace hf := tg_s hf; obtain ⟨ht4, hf⟩ := hf
  replace hf := bs hf; obtain ⟨r2, hk_3, hf⟩ := hf
  rcases (Decidable.em (r2 = (ii 0))).symm with c5 | c5
  · replace hf := if_f hf c5
    replace hf := nm_s hf; obtain ⟨T6, hT6, hf⟩ := hf
    replace hf := nm_s hf; obtain ⟨Z7, hZ7, hf⟩ := hf
    replace hf := nm_s hf; obtain ⟨S8, hS8, hf⟩ := hf
    have hm := zX6_both_rX20_b19 hrz hf
    exact ⟨by omega, by omega⟩
  · replace hf := if_t hf c5
    cases hf
    exact ⟨Nat.le_refl _, Nat.le_refl _⟩
set_option maxHeartbeats 400000 in
set_option maxRecDepth 100000 in
theorem wX6_both_rX20_b4 {nf : Nat} {fd ld : Nat} {rc : (Nat → Option Nat) → xT → xT → Nat → Nat → xI → xL → xR → Nat → Option ((Nat ⊕ Nat) × xT × xT × Nat × Nat × xI × xR)} {kc ks : Nat} {cells slots : Nat} {p : Program} {l : Launch} {e : Env} {s : State} {m : MethodId} {args : Array Value} {below : List Frame} {meth : Method} {c : Code} {D : va_G} {dA : Nat → ClassId} {s0 : Nat} {T : xT} {N : xT} {Z : Nat} {S : Nat} {I : xI} {L : xL} {R : xR} {H : Heap} {locs : List Loc} {ls : Array Slot}  {x0 : Nat} {z0 : Nat} {ro : (Nat ⊕ Nat)} {To : xT} {No : xT} {Zo : Nat} {So : Nat} {Io : xI} {Ro : xR} (X : Cx D dA s0 p m c cX6_both 3 s args RX6 meth) (hr : meth.sig.returnType = (some (.object "LostLanes$Test"))) (htE : c.exceptionTable.toList = []) (hrc : Con_X6_test_rX20 l D dA s0 fd ld rc) (hrz : Mon_X6_test_rX20 rc)    (hf : fX6_both_rX20_b4 nf rc (sv dA) T N Z S I L R x0 z0 = some (ro, To, No, Zo, So, Io, Ro)) (V : Iv D dA s0 s T N Z I L R H locs) (hl : lv_has ls 3 [(0, .ref x0)]) (hB : cells + (Zo - Z) ≤ kc ∧ slots + (So - S) ≤ ks) : W p l e { frames := fd + 123, cells := kc, slots := ks, locals := ld + 2634 } s m args below meth c H locs cells slots (vx_MQ below (yQ D dA s0 (rA_ ro) To No Zo Io L Ro) (yX D dA s0 (rA_ ro) To No Zo Io L Ro) args s kc ks (fun q => s0 ≤ q)) (F0 m 4 ls [.ref z0]) := by
  have hx := X.1.1
  have hb := X.1.2.1
  unfold fX6_both_rX20_b4 at hf
  refine lv_astore_n (pc := 4) (lv' := [(1, .ref z0), (0, .ref x0)]) hx hb dX6_both_4 rfl hl (by decide) rfl (fun ls hl => ?_)
  refine lv_aload_n (pc := 5) hx hb dX6_both_5 rfl (lv_at hl 1 rfl) ?_
  replace hf := bs hf; obtain ⟨a1, ha1, hf⟩ := hf
  refine x_ldcS (pc := 6) X 33 rfl ha1 dX6_both_6 ?_
  replace hf := tg_s hf; obtain ⟨ht4, hf⟩ := hf
  replace hf := bs hf; obtain ⟨r2, hk_3, hf⟩ := hf
  refine x_callU (pc := 8) (As := [.ref a1]) (rest := []) X V (mX6_is_rX20 l D dA s0 hk_3) okX20 ht4 q916 q2222 q2224 q799 q133 q800 rfl hsX6_is_rX20 ⟨by dsimp only; omega, by dsimp only; omega⟩ rfl hl.1 rfl (Nat.le_of_ble_eq_true rfl) dX6_both_8 ⟨by show cells ≤ kc; omega, by show slots ≤ ks; omega⟩ (fun H locs V => W.eq (g2 := F0 m 11 ls [.int r2]) rfl ?_)
  refine lv_if_ne (pc := 11) (tgt := 16) hx hb dX6_both_11 (by decide) (fun c5 => ?_) (fun c5 => ?_)
  · replace hf := if_f hf c5
    replace hf := nm_s hf; obtain ⟨T6, hT6, hf⟩ := hf
    replace hf := nm_s hf; obtain ⟨Z7, hZ7, hf⟩ := hf
    replace hf := nm_s hf; obtain ⟨S8, hS8, hf⟩ := hf
    have hm := zX6_both_rX20_b19 hrz hf
    refine x_new (pc := 16) X V okX17 hT6 hZ7 q1097 q1098 q147 (by show _ ≤ kc; omega) (by show _ ≤ ks; omega) dX6_both_16 (fun H V => ?_)
    exact wX6_both_rX20_b19 X hr htE hrc hrz hf V (lv_sub hl [1, 0] rfl) ⟨by omega, by omega⟩
  · replace hf := if_t hf c5
    refine lv_aload_n (pc := 14) hx hb dX6_both_14 rfl (lv_at hl 0 rfl) ?_
    cases hf
    exact y_aret (pc := 15) X V hr (by omega) (by omega) (Or.inl ⟨_, rfl⟩) dX6_both_15
set_option maxHeartbeats 400000 in
set_option maxRecDepth 100000 in
theorem zX6_both_rX20 {nf : Nat} {rc : (Nat → Option Nat) → xT → xT → Nat → Nat → xI → xL → xR → Nat → Option ((Nat ⊕ Nat) × xT × xT × Nat × Nat × xI × xR)} {dA : Nat → ClassId} {T : xT} {N : xT} {Z : Nat} {S : Nat} {I : xI} {L : xL} {R : xR} {x0 : Nat} {ro : (Nat ⊕ Nat)} {To : xT} {No : xT} {Zo : Nat} {So : Nat} {Io : xI} {Ro : xR} (hrz : Mon_X6_test_rX20 rc) (hf : fX6_both_rX20 nf rc (sv dA) T N Z S I L R x0 = some (ro, To, No, Zo, So, Io, Ro)) : Z ≤ Zo ∧ S ≤ So := by
  unfold fX6_both_rX20 at hf
  replace hf := tg_s hf; obtain ⟨ht9, hf⟩ := hf
  replace hf := b7s hf; obtain ⟨r1, T2, N3, Z4, S5, I6, R7, hk_8, hf⟩ := hf
  have hm_hk_8 := zX6_plain_rX20 hrz hk_8
  replace hf := xc_s hf; rcases hf with ⟨a10, hr_12, hf⟩ | ⟨v11, hr_12, hf⟩
  · skip
    replace hf := tg_s hf; obtain ⟨ht13, hf⟩ := hf
    cases hf
    exact ⟨by omega, by omega⟩
  · skip
    have hm := zX6_both_rX20_b4 hrz hf
    exact ⟨by omega, by omega⟩
set_option maxHeartbeats 400000 in
set_option maxRecDepth 100000 in
theorem wX6_both_rX20_e {nf : Nat} {fd ld : Nat} {rc : (Nat → Option Nat) → xT → xT → Nat → Nat → xI → xL → xR → Nat → Option ((Nat ⊕ Nat) × xT × xT × Nat × Nat × xI × xR)} {kc ks : Nat} {cells slots : Nat} {p : Program} {l : Launch} {e : Env} {s : State} {m : MethodId} {args : Array Value} {below : List Frame} {meth : Method} {c : Code} {D : va_G} {dA : Nat → ClassId} {s0 : Nat} {T : xT} {N : xT} {Z : Nat} {S : Nat} {I : xI} {L : xL} {R : xR} {H : Heap} {locs : List Loc} {ls : Array Slot} {x0 : Nat} {ro : (Nat ⊕ Nat)} {To : xT} {No : xT} {Zo : Nat} {So : Nat} {Io : xI} {Ro : xR} (X : Cx D dA s0 p m c cX6_both 3 s args RX6 meth) (hr : meth.sig.returnType = (some (.object "LostLanes$Test"))) (htE : c.exceptionTable.toList = []) (hrc : Con_X6_test_rX20 l D dA s0 fd ld rc) (hrz : Mon_X6_test_rX20 rc)  (hf : fX6_both_rX20 nf rc (sv dA) T N Z S I L R x0 = some (ro, To, No, Zo, So, Io, Ro)) (V : Iv D dA s0 s T N Z I L R H locs) (hl : lv_has ls 3 [(0, .ref x0)]) (hB : cells + (Zo - Z) ≤ kc ∧ slots + (So - S) ≤ ks) : W p l e { frames := fd + 123, cells := kc, slots := ks, locals := ld + 2634 } s m args below meth c H locs cells slots (vx_MQ below (yQ D dA s0 (rA_ ro) To No Zo Io L Ro) (yX D dA s0 (rA_ ro) To No Zo Io L Ro) args s kc ks (fun q => s0 ≤ q)) (F0 m 0 ls []) := by
  have hx := X.1.1
  have hb := X.1.2.1
  unfold fX6_both_rX20 at hf
  refine lv_aload_n (pc := 0) hx hb dX6_both_0 rfl (lv_at hl 0 rfl) ?_
  replace hf := tg_s hf; obtain ⟨ht9, hf⟩ := hf
  replace hf := b7s hf; obtain ⟨r1, T2, N3, Z4, S5, I6, R7, hk_8, hf⟩ := hf
  have hm_hk_8 := zX6_plain_rX20 hrz hk_8
  replace hf := xc_s hf; rcases hf with ⟨a10, hr_12, hf⟩ | ⟨v11, hr_12, hf⟩
  · rw [hr_12] at hk_8
    replace hf := tg_s hf; obtain ⟨ht13, hf⟩ := hf
    have hzE : Z4 = Zo := by cases hf; rfl
    have hsE : S5 = So := by cases hf; rfl
    refine y_afterX (y_runU (pc := 1) (As := []) (rest := []) X V (mX6_plain_rX20 l D dA s0 hrc hrz (kc := Z4 - Z) (ks := S5 - S) (Nat.le_refl _) (Nat.le_refl _) hk_8) okX20 ht9 q1048 q1050 q1052 q1049 q133 q1053 rfl hsX6_plain_rX20 ⟨by dsimp only; omega, by dsimp only; omega⟩ rfl hl.1 rfl (Nat.le_of_ble_eq_true rfl) dX6_both_1 ⟨by show _ ≤ kc; omega, by show _ ≤ ks; omega⟩) V (fun H locs V => ?_)
    cases hf
    exact y_out X V htE okX8 ht13 (by omega) (by omega)
  · rw [hr_12] at hk_8
    have hm := zX6_both_rX20_b4 hrz hf
    refine y_afterR (y_runU (pc := 1) (As := []) (rest := []) X V (mX6_plain_rX20 l D dA s0 hrc hrz (kc := Z4 - Z) (ks := S5 - S) (Nat.le_refl _) (Nat.le_refl _) hk_8) okX20 ht9 q1048 q1050 q1052 q1049 q133 q1053 rfl hsX6_plain_rX20 ⟨by dsimp only; omega, by dsimp only; omega⟩ rfl hl.1 rfl (Nat.le_of_ble_eq_true rfl) dX6_both_1 ⟨by show _ ≤ kc; omega, by show _ ≤ ks; omega⟩) V (fun H locs V => W.eq (g2 := F0 m 4 ls [.ref v11]) rfl ?_)
    exact wX6_both_rX20_b4 X hr htE hrc hrz hf V (lv_sub hl [0] rfl) ⟨by omega, by omega⟩
theorem mX6_both_rX20 {nf : Nat} {fd ld : Nat} {rc : (Nat → Option Nat) → xT → xT → Nat → Nat → xI → xL → xR → Nat → Option ((Nat ⊕ Nat) × xT × xT × Nat × Nat × xI × xR)} (l : Launch) (D : va_G) (dA : Nat → ClassId) (s0 : Nat) {kc ks : Nat} {T : xT} {N : xT} {Z : Nat} {S : Nat} {I : xI} {L : xL} {R : xR} {x0 : Nat} {ro : (Nat ⊕ Nat)} {To : xT} {No : xT} {Zo : Nat} {So : Nat} {Io : xI} {Ro : xR} (hrc : Con_X6_test_rX20 l D dA s0 fd ld rc) (hrz : Mon_X6_test_rX20 rc) (hZ : Zo - Z ≤ kc) (hS : So - S ≤ ks) (hf : fX6_both_rX20 nf rc (sv dA) T N Z S I L R x0 = some (ro, To, No, Zo, So, Io, Ro)) : YMet l D dA s0 yX6_both (ws_ yX6_both cX6_both 3 ((some (.object "LostLanes$Test")))) (fd + 123) (ld + 2634) [.ref x0] T N Z I L R (rA_ ro) To No Zo Io L Ro kc ks :=
  y_start (own := RX6) rfl (by decide) (Nat.le_of_ble_eq_true rfl) (lv := [(0, .ref x0)]) rfl (fun p e s m below meth c ls X hr htE V hl => wX6_both_rX20_e X hr htE hrc hrz hf V hl ⟨by omega, by omega⟩)
set_option maxHeartbeats 400000 in
set_option maxRecDepth 100000 in
theorem zX6_test_rX20_b54 {nf : Nat} {rc : (Nat → Option Nat) → xT → xT → Nat → Nat → xI → xL → xR → Nat → Option ((Nat ⊕ Nat) × xT × xT × Nat × Nat × xI × xR)} {dA : Nat → ClassId} {T : xT} {N : xT} {Z : Nat} {S : Nat} {I : xI} {L : xL} {R : xR} {kk34 : xT → xT → Nat → Nat → xI → xR → Nat → Nat → Option ((Nat ⊕ Nat) × xT × xT × Nat × Nat × xI × xR)} {x0 : Nat} {x2 : Nat} {z0 : Int32} {ro : (Nat ⊕ Nat)} {To : xT} {No : xT} {Zo : Nat} {So : Nat} {Io : xI} {Ro : xR} (hrz : Mon_X6_test_rX20 rc) (hm34 : ∀ {T : xT} {N : xT} {Z : Nat} {S : Nat} {I : xI} {R : xR} {x0 : Nat} {x2 : Nat}, kk34 T N Z S I R x0 x2 = some (ro, To, No, Zo, So, Io, Ro) → Z ≤ Zo ∧ S ≤ So) (hf : fX6_test_rX20_b54 nf rc kk34 (sv dA) T N Z S I L R x0 x2 z0 = some (ro, To, No, Zo, So, Io, Ro)) : Z ≤ Zo ∧ S ≤ So := by
  unfold fX6_test_rX20_b54 at hf
  have hm := hm34 hf
  exact ⟨by omega, by omega⟩
set_option maxHeartbeats 400000 in
set_option maxRecDepth 100000 in
theorem wX6_test_rX20_b54 {nf : Nat} {fd ld : Nat} {rc : (Nat → Option Nat) → xT → xT → Nat → Nat → xI → xL → xR → Nat → Option ((Nat ⊕ Nat) × xT × xT × Nat × Nat × xI × xR)} {kc ks : Nat} {cells slots : Nat} {p : Program} {l : Launch} {e : Env} {s : State} {m : MethodId} {args : Array Value} {below : List Frame} {meth : Method} {c : Code} {D : va_G} {dA : Nat → ClassId} {s0 : Nat} {T : xT} {N : xT} {Z : Nat} {S : Nat} {I : xI} {L : xL} {R : xR} {H : Heap} {locs : List Loc} {ls : Array Slot} {kk34 : xT → xT → Nat → Nat → xI → xR → Nat → Nat → Option ((Nat ⊕ Nat) × xT × xT × Nat × Nat × xI × xR)} {x0 : Nat} {x2 : Nat} {z0 : Int32} {ro : (Nat ⊕ Nat)} {To : xT} {No : xT} {Zo : Nat} {So : Nat} {Io : xI} {Ro : xR} (X : Cx D dA s0 p m c cX6_test 3 s args RX6 meth) (hr : meth.sig.returnType = (some (.object "LostLanes$Test"))) (htE : c.exceptionTable.toList = []) (hrc : Con_X6_test_rX20 l D dA s0 fd ld rc) (hrz : Mon_X6_test_rX20 rc)  (hk34 : ∀ {T : xT} {N : xT} {Z : Nat} {S : Nat} {I : xI} {R : xR} {x0 : Nat} {x2 : Nat} {H : Heap} {locs : List Loc} {ls : Array Slot} {cells slots : Nat} , kk34 T N Z S I R x0 x2 = some (ro, To, No, Zo, So, Io, Ro) → Iv D dA s0 s T N Z I L R H locs → lv_has ls 3 [(0, .ref x0), (2, .ref x2)] → cells + (Zo - Z) ≤ kc ∧ slots + (So - S) ≤ ks → W p l e { frames := fd + 124, cells := kc, slots := ks, locals := ld + 2656 } s m args below meth c H locs cells slots (vx_MQ below (yQ D dA s0 (rA_ ro) To No Zo Io L Ro) (yX D dA s0 (rA_ ro) To No Zo Io L Ro) args s kc ks (fun q => s0 ≤ q)) (F0 m 34 ls [])) (hm34 : ∀ {T : xT} {N : xT} {Z : Nat} {S : Nat} {I : xI} {R : xR} {x0 : Nat} {x2 : Nat}, kk34 T N Z S I R x0 x2 = some (ro, To, No, Zo, So, Io, Ro) → Z ≤ Zo ∧ S ≤ So) (hf : fX6_test_rX20_b54 nf rc kk34 (sv dA) T N Z S I L R x0 x2 z0 = some (ro, To, No, Zo, So, Io, Ro)) (V : Iv D dA s0 s T N Z I L R H locs) (hl : lv_has ls 3 [(0, .ref x0), (2, .ref x2)]) (hB : cells + (Zo - Z) ≤ kc ∧ slots + (So - S) ≤ ks) : W p l e { frames := fd + 124, cells := kc, slots := ks, locals := ld + 2656 } s m args below meth c H locs cells slots (vx_MQ below (yQ D dA s0 (rA_ ro) To No Zo Io L Ro) (yX D dA s0 (rA_ ro) To No Zo Io L Ro) args s kc ks (fun q => s0 ≤ q)) (F0 m 54 ls [.int z0]) := by
  have hx := X.1.1
  have hb := X.1.2.1
  unfold fX6_test_rX20_b54 at hf
  refine lv_pop (pc := 54) hx hb dX6_test_54 rfl ?_
  refine lv_goto (pc := 55) (tgt := 34) hx hb dX6_test_55 (by decide) ?_
  exact hk34 hf V (lv_sub hl [0, 1] rfl) ⟨by omega, by omega⟩
set_option maxHeartbeats 400000 in
set_option maxRecDepth 100000 in
theorem zX6_test_rX20_b51 {nf : Nat} {rc : (Nat → Option Nat) → xT → xT → Nat → Nat → xI → xL → xR → Nat → Option ((Nat ⊕ Nat) × xT × xT × Nat × Nat × xI × xR)} {dA : Nat → ClassId} {T : xT} {N : xT} {Z : Nat} {S : Nat} {I : xI} {L : xL} {R : xR} {kk34 : xT → xT → Nat → Nat → xI → xR → Nat → Nat → Option ((Nat ⊕ Nat) × xT × xT × Nat × Nat × xI × xR)} {x0 : Nat} {x2 : Nat} {z0 : Nat} {z1 : Nat} {ro : (Nat ⊕ Nat)} {To : xT} {No : xT} {Zo : Nat} {So : Nat} {Io : xI} {Ro : xR} (hrz : Mon_X6_test_rX20 rc) (hm34 : ∀ {T : xT} {N : xT} {Z : Nat} {S : Nat} {I : xI} {R : xR} {x0 : Nat} {x2 : Nat}, kk34 T N Z S I R x0 x2 = some (ro, To, No, Zo, So, Io, Ro) → Z ≤ Zo ∧ S ≤ So) (hf : fX6_test_rX20_b51 nf rc kk34 (sv dA) T N Z S I L R x0 x2 z0 z1 = some (ro, To, No, Zo, So, Io, Ro)) : Z ≤ Zo ∧ S ≤ So := by
  unfold fX6_test_rX20_b51 at hf
  replace hf := tg_s hf; obtain ⟨ht9, hf⟩ := hf
  replace hf := b7s hf; obtain ⟨r1, T2, N3, Z4, S5, I6, R7, hk_8, hf⟩ := hf
  have hm_hk_8 := zJ2_add hk_8
  have hm := zX6_test_rX20_b54 hrz hm34 hf
  exact ⟨by omega, by omega⟩
set_option maxHeartbeats 400000 in
set_option maxRecDepth 100000 in
theorem wX6_test_rX20_b51 {nf : Nat} {fd ld : Nat} {rc : (Nat → Option Nat) → xT → xT → Nat → Nat → xI → xL → xR → Nat → Option ((Nat ⊕ Nat) × xT × xT × Nat × Nat × xI × xR)} {kc ks : Nat} {cells slots : Nat} {p : Program} {l : Launch} {e : Env} {s : State} {m : MethodId} {args : Array Value} {below : List Frame} {meth : Method} {c : Code} {D : va_G} {dA : Nat → ClassId} {s0 : Nat} {T : xT} {N : xT} {Z : Nat} {S : Nat} {I : xI} {L : xL} {R : xR} {H : Heap} {locs : List Loc} {ls : Array Slot} {kk34 : xT → xT → Nat → Nat → xI → xR → Nat → Nat → Option ((Nat ⊕ Nat) × xT × xT × Nat × Nat × xI × xR)} {x0 : Nat} {x2 : Nat} {z0 : Nat} {z1 : Nat} {ro : (Nat ⊕ Nat)} {To : xT} {No : xT} {Zo : Nat} {So : Nat} {Io : xI} {Ro : xR} (X : Cx D dA s0 p m c cX6_test 3 s args RX6 meth) (hr : meth.sig.returnType = (some (.object "LostLanes$Test"))) (htE : c.exceptionTable.toList = []) (hrc : Con_X6_test_rX20 l D dA s0 fd ld rc) (hrz : Mon_X6_test_rX20 rc)  (hk34 : ∀ {T : xT} {N : xT} {Z : Nat} {S : Nat} {I : xI} {R : xR} {x0 : Nat} {x2 : Nat} {H : Heap} {locs : List Loc} {ls : Array Slot} {cells slots : Nat} , kk34 T N Z S I R x0 x2 = some (ro, To, No, Zo, So, Io, Ro) → Iv D dA s0 s T N Z I L R H locs → lv_has ls 3 [(0, .ref x0), (2, .ref x2)] → cells + (Zo - Z) ≤ kc ∧ slots + (So - S) ≤ ks → W p l e { frames := fd + 124, cells := kc, slots := ks, locals := ld + 2656 } s m args below meth c H locs cells slots (vx_MQ below (yQ D dA s0 (rA_ ro) To No Zo Io L Ro) (yX D dA s0 (rA_ ro) To No Zo Io L Ro) args s kc ks (fun q => s0 ≤ q)) (F0 m 34 ls [])) (hm34 : ∀ {T : xT} {N : xT} {Z : Nat} {S : Nat} {I : xI} {R : xR} {x0 : Nat} {x2 : Nat}, kk34 T N Z S I R x0 x2 = some (ro, To, No, Zo, So, Io, Ro) → Z ≤ Zo ∧ S ≤ So) (hf : fX6_test_rX20_b51 nf rc kk34 (sv dA) T N Z S I L R x0 x2 z0 z1 = some (ro, To, No, Zo, So, Io, Ro)) (V : Iv D dA s0 s T N Z I L R H locs) (hl : lv_has ls 3 [(0, .ref x0), (2, .ref x2)]) (hB : cells + (Zo - Z) ≤ kc ∧ slots + (So - S) ≤ ks) : W p l e { frames := fd + 124, cells := kc, slots := ks, locals := ld + 2656 } s m args below meth c H locs cells slots (vx_MQ below (yQ D dA s0 (rA_ ro) To No Zo Io L Ro) (yX D dA s0 (rA_ ro) To No Zo Io L Ro) args s kc ks (fun q => s0 ≤ q)) (F0 m 51 ls [.ref z1, .ref z0]) := by
  have hx := X.1.1
  have hb := X.1.2.1
  unfold fX6_test_rX20_b51 at hf
  replace hf := tg_s hf; obtain ⟨ht9, hf⟩ := hf
  replace hf := b7s hf; obtain ⟨r1, T2, N3, Z4, S5, I6, R7, hk_8, hf⟩ := hf
  have hm_hk_8 := zJ2_add hk_8
  have hm := zX6_test_rX20_b54 hrz hm34 hf
  refine x_callV (pc := 51) (As := [.ref z1]) (rest := []) X V (mJ2_add l D dA s0 (kc := Z4 - Z) (ks := S5 - S) (Nat.le_refl _) (Nat.le_refl _) hk_8) okJ2 ht9 q1113 q1114 q1115 q124 q1116 ⟨rfl, hsJ2_add⟩ ⟨by dsimp only; omega, by dsimp only; omega⟩ rfl hl.1 rfl (Nat.le_of_ble_eq_true rfl) dX6_test_51 ⟨by show _ ≤ kc; omega, by show _ ≤ ks; omega⟩ (fun H locs V => W.eq (g2 := F0 m 54 ls [.int r1]) rfl ?_)
  exact wX6_test_rX20_b54 X hr htE hrc hrz hk34 hm34 hf V (lv_sub hl [0, 1] rfl) ⟨by omega, by omega⟩
set_option maxHeartbeats 400000 in
set_option maxRecDepth 100000 in
theorem zX6_test_rX20_b34 {nf : Nat} {rc : (Nat → Option Nat) → xT → xT → Nat → Nat → xI → xL → xR → Nat → Option ((Nat ⊕ Nat) × xT × xT × Nat × Nat × xI × xR)} {dA : Nat → ClassId} {L : xL}  {ro : (Nat ⊕ Nat)} {To : xT} {No : xT} {Zo : Nat} {So : Nat} {Io : xI} {Ro : xR} (hrz : Mon_X6_test_rX20 rc)  (k : Nat) : ∀ {T : xT} {N : xT} {Z : Nat} {S : Nat} {I : xI} {R : xR} {x0 : Nat} {x2 : Nat}, fX6_test_rX20_b34 nf rc (sv dA) L k T N Z S I R x0 x2 = some (ro, To, No, Zo, So, Io, Ro) → Z ≤ Zo ∧ S ≤ So := by
  induction k with
  | zero =>
    intro T N Z S I R x0 x2 hf
    exact absurd (show none = some _ from hf) (fun q => nomatch q)
  | succ k ih =>
    intro T N Z S I R x0 x2 hf
    rw [fX6_test_rX20_b34] at hf
    replace hf := bs hf; obtain ⟨a1, ha1, hf⟩ := hf
    replace hf := tg_s hf; obtain ⟨ht5, hf⟩ := hf
    replace hf := b2s hf; obtain ⟨r2, I3, hk_4, hf⟩ := hf
    rcases (Decidable.em (r2 = (ii 0))) with c6 | c6
    · replace hf := if_t hf c6
      cases hf
      exact ⟨Nat.le_refl _, Nat.le_refl _⟩
    · replace hf := if_f hf c6
      replace hf := tg_s hf; obtain ⟨ht7, hf⟩ := hf
      replace hf := bs hf; obtain ⟨a8, ha8, hf⟩ := hf
      replace hf := b7s hf; obtain ⟨r9, T10, N11, Z12, S13, I14, R15, hk_16, hf⟩ := hf
      have hm_hk_16 := zX6_both_rX20 hrz hk_16
      replace hf := xc_s hf; rcases hf with ⟨a17, hr_19, hf⟩ | ⟨v18, hr_19, hf⟩
      · skip
        replace hf := tg_s hf; obtain ⟨ht20, hf⟩ := hf
        cases hf
        exact ⟨by omega, by omega⟩
      · skip
        have hm := zX6_test_rX20_b51 hrz ih hf
        exact ⟨by omega, by omega⟩
set_option maxHeartbeats 400000 in
set_option maxRecDepth 100000 in
theorem wX6_test_rX20_b34 {nf : Nat} {fd ld : Nat} {rc : (Nat → Option Nat) → xT → xT → Nat → Nat → xI → xL → xR → Nat → Option ((Nat ⊕ Nat) × xT × xT × Nat × Nat × xI × xR)} {kc ks : Nat} {p : Program} {l : Launch} {e : Env} {s : State} {m : MethodId} {args : Array Value} {below : List Frame} {meth : Method} {c : Code} {D : va_G} {dA : Nat → ClassId} {s0 : Nat} {L : xL}  {ro : (Nat ⊕ Nat)} {To : xT} {No : xT} {Zo : Nat} {So : Nat} {Io : xI} {Ro : xR} (X : Cx D dA s0 p m c cX6_test 3 s args RX6 meth) (hr : meth.sig.returnType = (some (.object "LostLanes$Test"))) (htE : c.exceptionTable.toList = []) (hrc : Con_X6_test_rX20 l D dA s0 fd ld rc) (hrz : Mon_X6_test_rX20 rc)    (k : Nat) : ∀ {T : xT} {N : xT} {Z : Nat} {S : Nat} {I : xI} {R : xR} {x0 : Nat} {x2 : Nat} {H : Heap} {locs : List Loc} {ls : Array Slot} {cells slots : Nat} , fX6_test_rX20_b34 nf rc (sv dA) L k T N Z S I R x0 x2 = some (ro, To, No, Zo, So, Io, Ro) → Iv D dA s0 s T N Z I L R H locs → lv_has ls 3 [(0, .ref x0), (2, .ref x2)] → cells + (Zo - Z) ≤ kc ∧ slots + (So - S) ≤ ks → W p l e { frames := fd + 124, cells := kc, slots := ks, locals := ld + 2656 } s m args below meth c H locs cells slots (vx_MQ below (yQ D dA s0 (rA_ ro) To No Zo Io L Ro) (yX D dA s0 (rA_ ro) To No Zo Io L Ro) args s kc ks (fun q => s0 ≤ q)) (F0 m 34 ls []) := by
  have hx := X.1.1
  have hb := X.1.2.1
  induction k with
  | zero =>
    intro T N Z S I R x0 x2 H locs ls cells slots hf V hl hB
    exact absurd (show none = some _ from hf) (fun q => nomatch q)
  | succ k ih =>
    intro T N Z S I R x0 x2 H locs ls cells slots hf V hl hB
    have ihm : ∀ {T : xT} {N : xT} {Z : Nat} {S : Nat} {I : xI} {R : xR} {x0 : Nat} {x2 : Nat}, fX6_test_rX20_b34 nf rc (sv dA) L k T N Z S I R x0 x2 = some (ro, To, No, Zo, So, Io, Ro) → Z ≤ Zo ∧ S ≤ So := zX6_test_rX20_b34 hrz k
    rw [fX6_test_rX20_b34] at hf
    refine lv_aload_n (pc := 34) hx hb dX6_test_34 rfl (lv_at hl 0 rfl) ?_
    replace hf := bs hf; obtain ⟨a1, ha1, hf⟩ := hf
    refine x_ldcS (pc := 35) X 34 rfl ha1 dX6_test_35 ?_
    replace hf := tg_s hf; obtain ⟨ht5, hf⟩ := hf
    replace hf := b2s hf; obtain ⟨r2, I3, hk_4, hf⟩ := hf
    refine x_callU (pc := 37) (As := [.ref a1]) (rest := []) X V (mX6_takes_rX20 l D dA s0 hk_4) okX20 ht5 q931 q933 q935 q932 q133 q936 rfl hsX6_takes_rX20 ⟨by dsimp only; omega, by dsimp only; omega⟩ rfl hl.1 rfl (Nat.le_of_ble_eq_true rfl) dX6_test_37 ⟨by show cells ≤ kc; omega, by show slots ≤ ks; omega⟩ (fun H locs V => W.eq (g2 := F0 m 40 ls [.int r2]) rfl ?_)
    refine lv_if_eq (pc := 40) (tgt := 58) hx hb dX6_test_40 (by decide) (fun c6 => ?_) (fun c6 => ?_)
    · replace hf := if_t hf c6
      refine lv_aload_n (pc := 58) hx hb dX6_test_58 rfl (lv_at hl 1 rfl) ?_
      cases hf
      exact y_aret (pc := 59) X V hr (by omega) (by omega) (Or.inl ⟨_, rfl⟩) dX6_test_59
    · replace hf := if_f hf c6
      refine lv_aload_n (pc := 43) hx hb dX6_test_43 rfl (lv_at hl 1 rfl) ?_
      replace hf := tg_s hf; obtain ⟨ht7, hf⟩ := hf
      replace hf := bs hf; obtain ⟨a8, ha8, hf⟩ := hf
      refine x_getN (pc := 44) X V okX17 ht7 1 (by decide) q1107 (v := va_rf (R x2 1)) rfl dX6_test_44 ?_
      refine x_topr ha8 ?_
      refine lv_aload_n (pc := 47) hx hb dX6_test_47 rfl (lv_at hl 0 rfl) ?_
      replace hf := b7s hf; obtain ⟨r9, T10, N11, Z12, S13, I14, R15, hk_16, hf⟩ := hf
      have hm_hk_16 := zX6_both_rX20 hrz hk_16
      replace hf := xc_s hf; rcases hf with ⟨a17, hr_19, hf⟩ | ⟨v18, hr_19, hf⟩
      · rw [hr_19] at hk_16
        replace hf := tg_s hf; obtain ⟨ht20, hf⟩ := hf
        have hzE : Z12 = Zo := by cases hf; rfl
        have hsE : S13 = So := by cases hf; rfl
        refine y_afterX (y_runU (pc := 48) (As := []) (rest := [.ref a8]) X V (mX6_both_rX20 l D dA s0 hrc hrz (kc := Z12 - Z) (ks := S13 - S) (Nat.le_refl _) (Nat.le_refl _) hk_16) okX20 ht5 q1042 q1044 q1046 q1043 q133 q1047 rfl hsX6_both_rX20 ⟨by dsimp only; omega, by dsimp only; omega⟩ rfl hl.1 rfl (Nat.le_of_ble_eq_true rfl) dX6_test_48 ⟨by show _ ≤ kc; omega, by show _ ≤ ks; omega⟩) V (fun H locs V => ?_)
        cases hf
        exact y_out X V htE okX8 ht20 (by omega) (by omega)
      · rw [hr_19] at hk_16
        have hm := zX6_test_rX20_b51 hrz ihm hf
        refine y_afterR (y_runU (pc := 48) (As := []) (rest := [.ref a8]) X V (mX6_both_rX20 l D dA s0 hrc hrz (kc := Z12 - Z) (ks := S13 - S) (Nat.le_refl _) (Nat.le_refl _) hk_16) okX20 ht5 q1042 q1044 q1046 q1043 q133 q1047 rfl hsX6_both_rX20 ⟨by dsimp only; omega, by dsimp only; omega⟩ rfl hl.1 rfl (Nat.le_of_ble_eq_true rfl) dX6_test_48 ⟨by show _ ≤ kc; omega, by show _ ≤ ks; omega⟩) V (fun H locs V => W.eq (g2 := F0 m 51 ls [.ref v18, .ref a8]) rfl ?_)
        exact wX6_test_rX20_b51 X hr htE hrc hrz ih ihm hf V (lv_sub hl [0, 1] rfl) ⟨by omega, by omega⟩
set_option maxHeartbeats 400000 in
set_option maxRecDepth 100000 in
theorem zX6_test_rX20_b33 {nf : Nat} {rc : (Nat → Option Nat) → xT → xT → Nat → Nat → xI → xL → xR → Nat → Option ((Nat ⊕ Nat) × xT × xT × Nat × Nat × xI × xR)} {dA : Nat → ClassId} {T : xT} {N : xT} {Z : Nat} {S : Nat} {I : xI} {L : xL} {R : xR}  {x0 : Nat} {x2 : Nat} {z0 : Int32} {ro : (Nat ⊕ Nat)} {To : xT} {No : xT} {Zo : Nat} {So : Nat} {Io : xI} {Ro : xR} (hrz : Mon_X6_test_rX20 rc)  (hf : fX6_test_rX20_b33 nf rc (sv dA) T N Z S I L R x0 x2 z0 = some (ro, To, No, Zo, So, Io, Ro)) : Z ≤ Zo ∧ S ≤ So := by
  unfold fX6_test_rX20_b33 at hf
  have hm := zX6_test_rX20_b34 hrz nf hf
  exact ⟨by omega, by omega⟩
set_option maxHeartbeats 400000 in
set_option maxRecDepth 100000 in
theorem wX6_test_rX20_b33 {nf : Nat} {fd ld : Nat} {rc : (Nat → Option Nat) → xT → xT → Nat → Nat → xI → xL → xR → Nat → Option ((Nat ⊕ Nat) × xT × xT × Nat × Nat × xI × xR)} {kc ks : Nat} {cells slots : Nat} {p : Program} {l : Launch} {e : Env} {s : State} {m : MethodId} {args : Array Value} {below : List Frame} {meth : Method} {c : Code} {D : va_G} {dA : Nat → ClassId} {s0 : Nat} {T : xT} {N : xT} {Z : Nat} {S : Nat} {I : xI} {L : xL} {R : xR} {H : Heap} {locs : List Loc} {ls : Array Slot}  {x0 : Nat} {x2 : Nat} {z0 : Int32} {ro : (Nat ⊕ Nat)} {To : xT} {No : xT} {Zo : Nat} {So : Nat} {Io : xI} {Ro : xR} (X : Cx D dA s0 p m c cX6_test 3 s args RX6 meth) (hr : meth.sig.returnType = (some (.object "LostLanes$Test"))) (htE : c.exceptionTable.toList = []) (hrc : Con_X6_test_rX20 l D dA s0 fd ld rc) (hrz : Mon_X6_test_rX20 rc)    (hf : fX6_test_rX20_b33 nf rc (sv dA) T N Z S I L R x0 x2 z0 = some (ro, To, No, Zo, So, Io, Ro)) (V : Iv D dA s0 s T N Z I L R H locs) (hl : lv_has ls 3 [(0, .ref x0), (2, .ref x2)]) (hB : cells + (Zo - Z) ≤ kc ∧ slots + (So - S) ≤ ks) : W p l e { frames := fd + 124, cells := kc, slots := ks, locals := ld + 2656 } s m args below meth c H locs cells slots (vx_MQ below (yQ D dA s0 (rA_ ro) To No Zo Io L Ro) (yX D dA s0 (rA_ ro) To No Zo Io L Ro) args s kc ks (fun q => s0 ≤ q)) (F0 m 33 ls [.int z0]) := by
  have hx := X.1.1
  have hb := X.1.2.1
  unfold fX6_test_rX20_b33 at hf
  refine lv_pop (pc := 33) hx hb dX6_test_33 rfl ?_
  exact wX6_test_rX20_b34 X hr htE hrc hrz nf hf V (lv_sub hl [0, 1] rfl) ⟨by omega, by omega⟩
set_option maxHeartbeats 400000 in
set_option maxRecDepth 100000 in
theorem zX6_test_rX20_b24 {nf : Nat} {rc : (Nat → Option Nat) → xT → xT → Nat → Nat → xI → xL → xR → Nat → Option ((Nat ⊕ Nat) × xT × xT × Nat × Nat × xI × xR)} {dA : Nat → ClassId} {T : xT} {N : xT} {Z : Nat} {S : Nat} {I : xI} {L : xL} {R : xR}  {x0 : Nat} {x1 : Nat} {z0 : Nat} {ro : (Nat ⊕ Nat)} {To : xT} {No : xT} {Zo : Nat} {So : Nat} {Io : xI} {Ro : xR} (hrz : Mon_X6_test_rX20 rc)  (hf : fX6_test_rX20_b24 nf rc (sv dA) T N Z S I L R x0 x1 z0 = some (ro, To, No, Zo, So, Io, Ro)) : Z ≤ Zo ∧ S ≤ So := by
  unfold fX6_test_rX20_b24 at hf
  replace hf := tg_s hf; obtain ⟨ht1, hf⟩ := hf
  replace hf := bs hf; obtain ⟨a2, ha2, hf⟩ := hf
  replace hf := tg_s hf; obtain ⟨ht11, hf⟩ := hf
  replace hf := b7s hf; obtain ⟨r3, T4, N5, Z6, S7, I8, R9, hk_10, hf⟩ := hf
  have hm_hk_10 := zJ2_add hk_10
  have hm := zX6_test_rX20_b33 hrz hf
  exact ⟨by omega, by omega⟩
set_option maxHeartbeats 400000 in
set_option maxRecDepth 100000 in
theorem wX6_test_rX20_b24 {nf : Nat} {fd ld : Nat} {rc : (Nat → Option Nat) → xT → xT → Nat → Nat → xI → xL → xR → Nat → Option ((Nat ⊕ Nat) × xT × xT × Nat × Nat × xI × xR)} {kc ks : Nat} {cells slots : Nat} {p : Program} {l : Launch} {e : Env} {s : State} {m : MethodId} {args : Array Value} {below : List Frame} {meth : Method} {c : Code} {D : va_G} {dA : Nat → ClassId} {s0 : Nat} {T : xT} {N : xT} {Z : Nat} {S : Nat} {I : xI} {L : xL} {R : xR} {H : Heap} {locs : List Loc} {ls : Array Slot}  {x0 : Nat} {x1 : Nat} {z0 : Nat} {ro : (Nat ⊕ Nat)} {To : xT} {No : xT} {Zo : Nat} {So : Nat} {Io : xI} {Ro : xR} (X : Cx D dA s0 p m c cX6_test 3 s args RX6 meth) (hr : meth.sig.returnType = (some (.object "LostLanes$Test"))) (htE : c.exceptionTable.toList = []) (hrc : Con_X6_test_rX20 l D dA s0 fd ld rc) (hrz : Mon_X6_test_rX20 rc)    (hf : fX6_test_rX20_b24 nf rc (sv dA) T N Z S I L R x0 x1 z0 = some (ro, To, No, Zo, So, Io, Ro)) (V : Iv D dA s0 s T N Z I L R H locs) (hl : lv_has ls 3 [(0, .ref x0), (1, .ref x1)]) (hB : cells + (Zo - Z) ≤ kc ∧ slots + (So - S) ≤ ks) : W p l e { frames := fd + 124, cells := kc, slots := ks, locals := ld + 2656 } s m args below meth c H locs cells slots (vx_MQ below (yQ D dA s0 (rA_ ro) To No Zo Io L Ro) (yX D dA s0 (rA_ ro) To No Zo Io L Ro) args s kc ks (fun q => s0 ≤ q)) (F0 m 24 ls [.ref z0]) := by
  have hx := X.1.1
  have hb := X.1.2.1
  unfold fX6_test_rX20_b24 at hf
  refine lv_astore_n (pc := 24) (lv' := [(2, .ref z0), (0, .ref x0), (1, .ref x1)]) hx hb dX6_test_24 rfl hl (by decide) rfl (fun ls hl => ?_)
  refine lv_aload_n (pc := 25) hx hb dX6_test_25 rfl (lv_at hl 0 rfl) ?_
  replace hf := tg_s hf; obtain ⟨ht1, hf⟩ := hf
  replace hf := bs hf; obtain ⟨a2, ha2, hf⟩ := hf
  refine x_getN (pc := 26) X V okX17 ht1 1 (by decide) q1107 (v := va_rf (R z0 1)) rfl dX6_test_26 ?_
  refine x_topr ha2 ?_
  refine lv_aload_n (pc := 29) hx hb dX6_test_29 rfl (lv_at hl 2 rfl) ?_
  replace hf := tg_s hf; obtain ⟨ht11, hf⟩ := hf
  replace hf := b7s hf; obtain ⟨r3, T4, N5, Z6, S7, I8, R9, hk_10, hf⟩ := hf
  have hm_hk_10 := zJ2_add hk_10
  have hm := zX6_test_rX20_b33 hrz hf
  refine x_callV (pc := 30) (As := [.ref x1]) (rest := []) X V (mJ2_add l D dA s0 (kc := Z6 - Z) (ks := S7 - S) (Nat.le_refl _) (Nat.le_refl _) hk_10) okJ2 ht11 q1113 q1114 q1115 q124 q1116 ⟨rfl, hsJ2_add⟩ ⟨by dsimp only; omega, by dsimp only; omega⟩ rfl hl.1 rfl (Nat.le_of_ble_eq_true rfl) dX6_test_30 ⟨by show _ ≤ kc; omega, by show _ ≤ ks; omega⟩ (fun H locs V => W.eq (g2 := F0 m 33 ls [.int r3]) rfl ?_)
  exact wX6_test_rX20_b33 X hr htE hrc hrz hf V (lv_sub hl [1, 0] rfl) ⟨by omega, by omega⟩
set_option maxHeartbeats 400000 in
set_option maxRecDepth 100000 in
theorem zX6_test_rX20_b19 {nf : Nat} {rc : (Nat → Option Nat) → xT → xT → Nat → Nat → xI → xL → xR → Nat → Option ((Nat ⊕ Nat) × xT × xT × Nat × Nat × xI × xR)} {dA : Nat → ClassId} {T : xT} {N : xT} {Z : Nat} {S : Nat} {I : xI} {L : xL} {R : xR}  {x0 : Nat} {x1 : Nat} {z0 : Nat} {ro : (Nat ⊕ Nat)} {To : xT} {No : xT} {Zo : Nat} {So : Nat} {Io : xI} {Ro : xR} (hrz : Mon_X6_test_rX20 rc)  (hf : fX6_test_rX20_b19 nf rc (sv dA) T N Z S I L R x0 x1 z0 = some (ro, To, No, Zo, So, Io, Ro)) : Z ≤ Zo ∧ S ≤ So := by
  unfold fX6_test_rX20_b19 at hf
  replace hf := b6s hf; obtain ⟨T1, N2, Z3, S4, I5, R6, hk_7, hf⟩ := hf
  have hm_hk_7 := zX17_init hk_7
  have hm := zX6_test_rX20_b24 hrz hf
  exact ⟨by omega, by omega⟩
set_option maxHeartbeats 400000 in
set_option maxRecDepth 100000 in
theorem wX6_test_rX20_b19 {nf : Nat} {fd ld : Nat} {rc : (Nat → Option Nat) → xT → xT → Nat → Nat → xI → xL → xR → Nat → Option ((Nat ⊕ Nat) × xT × xT × Nat × Nat × xI × xR)} {kc ks : Nat} {cells slots : Nat} {p : Program} {l : Launch} {e : Env} {s : State} {m : MethodId} {args : Array Value} {below : List Frame} {meth : Method} {c : Code} {D : va_G} {dA : Nat → ClassId} {s0 : Nat} {T : xT} {N : xT} {Z : Nat} {S : Nat} {I : xI} {L : xL} {R : xR} {H : Heap} {locs : List Loc} {ls : Array Slot}  {x0 : Nat} {x1 : Nat} {z0 : Nat} {ro : (Nat ⊕ Nat)} {To : xT} {No : xT} {Zo : Nat} {So : Nat} {Io : xI} {Ro : xR} (X : Cx D dA s0 p m c cX6_test 3 s args RX6 meth) (hr : meth.sig.returnType = (some (.object "LostLanes$Test"))) (htE : c.exceptionTable.toList = []) (hrc : Con_X6_test_rX20 l D dA s0 fd ld rc) (hrz : Mon_X6_test_rX20 rc)    (hf : fX6_test_rX20_b19 nf rc (sv dA) T N Z S I L R x0 x1 z0 = some (ro, To, No, Zo, So, Io, Ro)) (V : Iv D dA s0 s T N Z I L R H locs) (hl : lv_has ls 3 [(0, .ref x0), (1, .ref x1)]) (hB : cells + (Zo - Z) ≤ kc ∧ slots + (So - S) ≤ ks) : W p l e { frames := fd + 124, cells := kc, slots := ks, locals := ld + 2656 } s m args below meth c H locs cells slots (vx_MQ below (yQ D dA s0 (rA_ ro) To No Zo Io L Ro) (yX D dA s0 (rA_ ro) To No Zo Io L Ro) args s kc ks (fun q => s0 ≤ q)) (F0 m 19 ls [.ref z0]) := by
  have hx := X.1.1
  have hb := X.1.2.1
  unfold fX6_test_rX20_b19 at hf
  refine lv_dup (pc := 19) hx hb dX6_test_19 rfl ?_
  refine lv_iconst (pc := 20) (v := (ii 0)) hx hb dX6_test_20 (by decide) ?_
  replace hf := b6s hf; obtain ⟨T1, N2, Z3, S4, I5, R6, hk_7, hf⟩ := hf
  have hm_hk_7 := zX17_init hk_7
  have hm := zX6_test_rX20_b24 hrz hf
  refine x_callI (pc := 21) (As := [.int (ii 0)]) (rest := [.ref z0]) X V (mX17_init l D dA s0 (kc := Z3 - Z) (ks := S4 - S) (Nat.le_refl _) (Nat.le_refl _) hk_7) q1099 q1100 q147 q1101 rfl hsX17_init ⟨by dsimp only; omega, by dsimp only; omega⟩ rfl hl.1 rfl (Nat.le_of_ble_eq_true rfl) dX6_test_21 ⟨by show _ ≤ kc; omega, by show _ ≤ ks; omega⟩ (fun H locs V => W.eq (g2 := F0 m 24 ls [.ref z0]) rfl ?_)
  exact wX6_test_rX20_b24 X hr htE hrc hrz hf V (lv_sub hl [0, 1] rfl) ⟨by omega, by omega⟩
set_option maxHeartbeats 400000 in
set_option maxRecDepth 100000 in
theorem zX6_test_rX20_b4 {nf : Nat} {rc : (Nat → Option Nat) → xT → xT → Nat → Nat → xI → xL → xR → Nat → Option ((Nat ⊕ Nat) × xT × xT × Nat × Nat × xI × xR)} {dA : Nat → ClassId} {T : xT} {N : xT} {Z : Nat} {S : Nat} {I : xI} {L : xL} {R : xR}  {x0 : Nat} {z0 : Nat} {ro : (Nat ⊕ Nat)} {To : xT} {No : xT} {Zo : Nat} {So : Nat} {Io : xI} {Ro : xR} (hrz : Mon_X6_test_rX20 rc)  (hf : fX6_test_rX20_b4 nf rc (sv dA) T N Z S I L R x0 z0 = some (ro, To, No, Zo, So, Io, Ro)) : Z ≤ Zo ∧ S ≤ So := by
  unfold fX6_test_rX20_b4 at hf
  replace hf := bs hf; obtain ⟨a1, ha1, hf⟩ := hf
  replace hf := tg_s hf; obtain ⟨ht4, hf⟩ := hf
  replace hf := bs hf; obtain ⟨r2, hk_3, hf⟩ := hf
  rcases (Decidable.em (r2 = (ii 0))).symm with c5 | c5
  · replace hf := if_f hf c5
    replace hf := nm_s hf; obtain ⟨T6, hT6, hf⟩ := hf
    replace hf := nm_s hf; obtain ⟨Z7, hZ7, hf⟩ := hf
    replace hf := nm_s hf; obtain ⟨S8, hS8, hf⟩ := hf
    have hm := zX6_test_rX20_b19 hrz hf
    exact ⟨by omega, by omega⟩
  · replace hf := if_t hf c5
    cases hf
    exact ⟨Nat.le_refl _, Nat.le_refl _⟩
set_option maxHeartbeats 400000 in
set_option maxRecDepth 100000 in
theorem wX6_test_rX20_b4 {nf : Nat} {fd ld : Nat} {rc : (Nat → Option Nat) → xT → xT → Nat → Nat → xI → xL → xR → Nat → Option ((Nat ⊕ Nat) × xT × xT × Nat × Nat × xI × xR)} {kc ks : Nat} {cells slots : Nat} {p : Program} {l : Launch} {e : Env} {s : State} {m : MethodId} {args : Array Value} {below : List Frame} {meth : Method} {c : Code} {D : va_G} {dA : Nat → ClassId} {s0 : Nat} {T : xT} {N : xT} {Z : Nat} {S : Nat} {I : xI} {L : xL} {R : xR} {H : Heap} {locs : List Loc} {ls : Array Slot}  {x0 : Nat} {z0 : Nat} {ro : (Nat ⊕ Nat)} {To : xT} {No : xT} {Zo : Nat} {So : Nat} {Io : xI} {Ro : xR} (X : Cx D dA s0 p m c cX6_test 3 s args RX6 meth) (hr : meth.sig.returnType = (some (.object "LostLanes$Test"))) (htE : c.exceptionTable.toList = []) (hrc : Con_X6_test_rX20 l D dA s0 fd ld rc) (hrz : Mon_X6_test_rX20 rc)    (hf : fX6_test_rX20_b4 nf rc (sv dA) T N Z S I L R x0 z0 = some (ro, To, No, Zo, So, Io, Ro)) (V : Iv D dA s0 s T N Z I L R H locs) (hl : lv_has ls 3 [(0, .ref x0)]) (hB : cells + (Zo - Z) ≤ kc ∧ slots + (So - S) ≤ ks) : W p l e { frames := fd + 124, cells := kc, slots := ks, locals := ld + 2656 } s m args below meth c H locs cells slots (vx_MQ below (yQ D dA s0 (rA_ ro) To No Zo Io L Ro) (yX D dA s0 (rA_ ro) To No Zo Io L Ro) args s kc ks (fun q => s0 ≤ q)) (F0 m 4 ls [.ref z0]) := by
  have hx := X.1.1
  have hb := X.1.2.1
  unfold fX6_test_rX20_b4 at hf
  refine lv_astore_n (pc := 4) (lv' := [(1, .ref z0), (0, .ref x0)]) hx hb dX6_test_4 rfl hl (by decide) rfl (fun ls hl => ?_)
  refine lv_aload_n (pc := 5) hx hb dX6_test_5 rfl (lv_at hl 1 rfl) ?_
  replace hf := bs hf; obtain ⟨a1, ha1, hf⟩ := hf
  refine x_ldcS (pc := 6) X 34 rfl ha1 dX6_test_6 ?_
  replace hf := tg_s hf; obtain ⟨ht4, hf⟩ := hf
  replace hf := bs hf; obtain ⟨r2, hk_3, hf⟩ := hf
  refine x_callU (pc := 8) (As := [.ref a1]) (rest := []) X V (mX6_is_rX20 l D dA s0 hk_3) okX20 ht4 q916 q2222 q2224 q799 q133 q800 rfl hsX6_is_rX20 ⟨by dsimp only; omega, by dsimp only; omega⟩ rfl hl.1 rfl (Nat.le_of_ble_eq_true rfl) dX6_test_8 ⟨by show cells ≤ kc; omega, by show slots ≤ ks; omega⟩ (fun H locs V => W.eq (g2 := F0 m 11 ls [.int r2]) rfl ?_)
  refine lv_if_ne (pc := 11) (tgt := 16) hx hb dX6_test_11 (by decide) (fun c5 => ?_) (fun c5 => ?_)
  · replace hf := if_f hf c5
    replace hf := nm_s hf; obtain ⟨T6, hT6, hf⟩ := hf
    replace hf := nm_s hf; obtain ⟨Z7, hZ7, hf⟩ := hf
    replace hf := nm_s hf; obtain ⟨S8, hS8, hf⟩ := hf
    have hm := zX6_test_rX20_b19 hrz hf
    refine x_new (pc := 16) X V okX17 hT6 hZ7 q1097 q1098 q147 (by show _ ≤ kc; omega) (by show _ ≤ ks; omega) dX6_test_16 (fun H V => ?_)
    exact wX6_test_rX20_b19 X hr htE hrc hrz hf V (lv_sub hl [1, 0] rfl) ⟨by omega, by omega⟩
  · replace hf := if_t hf c5
    refine lv_aload_n (pc := 14) hx hb dX6_test_14 rfl (lv_at hl 0 rfl) ?_
    cases hf
    exact y_aret (pc := 15) X V hr (by omega) (by omega) (Or.inl ⟨_, rfl⟩) dX6_test_15
set_option maxHeartbeats 400000 in
set_option maxRecDepth 100000 in
theorem zX6_test_rX20_E {nf : Nat} {rc : (Nat → Option Nat) → xT → xT → Nat → Nat → xI → xL → xR → Nat → Option ((Nat ⊕ Nat) × xT × xT × Nat × Nat × xI × xR)} {dA : Nat → ClassId} {T : xT} {N : xT} {Z : Nat} {S : Nat} {I : xI} {L : xL} {R : xR} {x0 : Nat} {ro : (Nat ⊕ Nat)} {To : xT} {No : xT} {Zo : Nat} {So : Nat} {Io : xI} {Ro : xR} (hrz : Mon_X6_test_rX20 rc) (hf : fX6_test_rX20_E nf rc (sv dA) T N Z S I L R x0 = some (ro, To, No, Zo, So, Io, Ro)) : Z ≤ Zo ∧ S ≤ So := by
  unfold fX6_test_rX20_E at hf
  replace hf := tg_s hf; obtain ⟨ht9, hf⟩ := hf
  replace hf := b7s hf; obtain ⟨r1, T2, N3, Z4, S5, I6, R7, hk_8, hf⟩ := hf
  have hm_hk_8 := zX6_both_rX20 hrz hk_8
  replace hf := xc_s hf; rcases hf with ⟨a10, hr_12, hf⟩ | ⟨v11, hr_12, hf⟩
  · skip
    replace hf := tg_s hf; obtain ⟨ht13, hf⟩ := hf
    cases hf
    exact ⟨by omega, by omega⟩
  · skip
    have hm := zX6_test_rX20_b4 hrz hf
    exact ⟨by omega, by omega⟩
set_option maxHeartbeats 400000 in
set_option maxRecDepth 100000 in
theorem wX6_test_rX20_e {nf : Nat} {fd ld : Nat} {rc : (Nat → Option Nat) → xT → xT → Nat → Nat → xI → xL → xR → Nat → Option ((Nat ⊕ Nat) × xT × xT × Nat × Nat × xI × xR)} {kc ks : Nat} {cells slots : Nat} {p : Program} {l : Launch} {e : Env} {s : State} {m : MethodId} {args : Array Value} {below : List Frame} {meth : Method} {c : Code} {D : va_G} {dA : Nat → ClassId} {s0 : Nat} {T : xT} {N : xT} {Z : Nat} {S : Nat} {I : xI} {L : xL} {R : xR} {H : Heap} {locs : List Loc} {ls : Array Slot} {x0 : Nat} {ro : (Nat ⊕ Nat)} {To : xT} {No : xT} {Zo : Nat} {So : Nat} {Io : xI} {Ro : xR} (X : Cx D dA s0 p m c cX6_test 3 s args RX6 meth) (hr : meth.sig.returnType = (some (.object "LostLanes$Test"))) (htE : c.exceptionTable.toList = []) (hrc : Con_X6_test_rX20 l D dA s0 fd ld rc) (hrz : Mon_X6_test_rX20 rc)  (hf : fX6_test_rX20_E nf rc (sv dA) T N Z S I L R x0 = some (ro, To, No, Zo, So, Io, Ro)) (V : Iv D dA s0 s T N Z I L R H locs) (hl : lv_has ls 3 [(0, .ref x0)]) (hB : cells + (Zo - Z) ≤ kc ∧ slots + (So - S) ≤ ks) : W p l e { frames := fd + 124, cells := kc, slots := ks, locals := ld + 2656 } s m args below meth c H locs cells slots (vx_MQ below (yQ D dA s0 (rA_ ro) To No Zo Io L Ro) (yX D dA s0 (rA_ ro) To No Zo Io L Ro) args s kc ks (fun q => s0 ≤ q)) (F0 m 0 ls []) := by
  have hx := X.1.1
  have hb := X.1.2.1
  unfold fX6_test_rX20_E at hf
  refine lv_aload_n (pc := 0) hx hb dX6_test_0 rfl (lv_at hl 0 rfl) ?_
  replace hf := tg_s hf; obtain ⟨ht9, hf⟩ := hf
  replace hf := b7s hf; obtain ⟨r1, T2, N3, Z4, S5, I6, R7, hk_8, hf⟩ := hf
  have hm_hk_8 := zX6_both_rX20 hrz hk_8
  replace hf := xc_s hf; rcases hf with ⟨a10, hr_12, hf⟩ | ⟨v11, hr_12, hf⟩
  · rw [hr_12] at hk_8
    replace hf := tg_s hf; obtain ⟨ht13, hf⟩ := hf
    have hzE : Z4 = Zo := by cases hf; rfl
    have hsE : S5 = So := by cases hf; rfl
    refine y_afterX (y_runU (pc := 1) (As := []) (rest := []) X V (mX6_both_rX20 l D dA s0 hrc hrz (kc := Z4 - Z) (ks := S5 - S) (Nat.le_refl _) (Nat.le_refl _) hk_8) okX20 ht9 q1042 q1044 q1046 q1043 q133 q1047 rfl hsX6_both_rX20 ⟨by dsimp only; omega, by dsimp only; omega⟩ rfl hl.1 rfl (Nat.le_of_ble_eq_true rfl) dX6_test_1 ⟨by show _ ≤ kc; omega, by show _ ≤ ks; omega⟩) V (fun H locs V => ?_)
    cases hf
    exact y_out X V htE okX8 ht13 (by omega) (by omega)
  · rw [hr_12] at hk_8
    have hm := zX6_test_rX20_b4 hrz hf
    refine y_afterR (y_runU (pc := 1) (As := []) (rest := []) X V (mX6_both_rX20 l D dA s0 hrc hrz (kc := Z4 - Z) (ks := S5 - S) (Nat.le_refl _) (Nat.le_refl _) hk_8) okX20 ht9 q1042 q1044 q1046 q1043 q133 q1047 rfl hsX6_both_rX20 ⟨by dsimp only; omega, by dsimp only; omega⟩ rfl hl.1 rfl (Nat.le_of_ble_eq_true rfl) dX6_test_1 ⟨by show _ ≤ kc; omega, by show _ ≤ ks; omega⟩) V (fun H locs V => W.eq (g2 := F0 m 4 ls [.ref v11]) rfl ?_)
    exact wX6_test_rX20_b4 X hr htE hrc hrz hf V (lv_sub hl [0] rfl) ⟨by omega, by omega⟩
theorem mX6_test_rX20_E {nf : Nat} {fd ld : Nat} {rc : (Nat → Option Nat) → xT → xT → Nat → Nat → xI → xL → xR → Nat → Option ((Nat ⊕ Nat) × xT × xT × Nat × Nat × xI × xR)} (l : Launch) (D : va_G) (dA : Nat → ClassId) (s0 : Nat) {kc ks : Nat} {T : xT} {N : xT} {Z : Nat} {S : Nat} {I : xI} {L : xL} {R : xR} {x0 : Nat} {ro : (Nat ⊕ Nat)} {To : xT} {No : xT} {Zo : Nat} {So : Nat} {Io : xI} {Ro : xR} (hrc : Con_X6_test_rX20 l D dA s0 fd ld rc) (hrz : Mon_X6_test_rX20 rc) (hZ : Zo - Z ≤ kc) (hS : So - S ≤ ks) (hf : fX6_test_rX20_E nf rc (sv dA) T N Z S I L R x0 = some (ro, To, No, Zo, So, Io, Ro)) : YMet l D dA s0 yX6_test (ws_ yX6_test cX6_test 3 ((some (.object "LostLanes$Test")))) (fd + 124) (ld + 2656) [.ref x0] T N Z I L R (rA_ ro) To No Zo Io L Ro kc ks :=
  y_start (own := RX6) rfl (by decide) (Nat.le_of_ble_eq_true rfl) (lv := [(0, .ref x0)]) rfl (fun p e s m below meth c ls X hr htE V hl => wX6_test_rX20_e X hr htE hrc hrz hf V hl ⟨by omega, by omega⟩)
theorem zX6_test_rX20 {nf : Nat} (d : Nat) : Mon_X6_test_rX20 (fX6_test_rX20 nf d) := by
  induction d with
  | zero =>
    intro dA T N Z S I L R x0 ro To No Zo So Io Ro hf
    exact absurd (show none = some _ from hf) (fun q => nomatch q)
  | succ d ih =>
    intro dA T N Z S I L R x0 ro To No Zo So Io Ro hf
    exact zX6_test_rX20_E ih hf
theorem mX6_test_rX20 {nf : Nat} (l : Launch) (D : va_G) (dA : Nat → ClassId) (s0 : Nat) (d : Nat) : Con_X6_test_rX20 l D dA s0 (124 * d) (2656 * d) (fX6_test_rX20 nf d) := by
  induction d with
  | zero =>
    intro kc ks T N Z S I L R x0 ro To No Zo So Io Ro hZ hS hf
    exact absurd (show none = some _ from hf) (fun q => nomatch q)
  | succ d ih =>
    intro kc ks T N Z S I L R x0 ro To No Zo So Io Ro hZ hS hf
    exact mX6_test_rX20_E l D dA s0 ih (zX6_test_rX20 d) hZ hS hf
