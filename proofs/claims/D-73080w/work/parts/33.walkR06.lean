set_option maxHeartbeats 400000 in
set_option maxRecDepth 100000 in
theorem zX20_clause_b158 {nf : Nat} {dA : Nat → ClassId} {T : xT} {N : xT} {Z : Nat} {S : Nat} {I : xI} {L : xL} {R : xR}  {z0 : Int32} {ro : (Nat ⊕ Unit)} {To : xT} {No : xT} {Zo : Nat} {So : Nat} {Io : xI} {Ro : xR}  (hf : fX20_clause_b158 nf (sv dA) T N Z S I L R z0 = some (ro, To, No, Zo, So, Io, Ro)) : Z ≤ Zo ∧ S ≤ So := by
  unfold fX20_clause_b158 at hf
  cases hf
  exact ⟨Nat.le_refl _, Nat.le_refl _⟩
set_option maxHeartbeats 400000 in
set_option maxRecDepth 100000 in
theorem wX20_clause_b158 {nf : Nat} {kc ks : Nat} {cells slots : Nat} {p : Program} {l : Launch} {e : Env} {s : State} {m : MethodId} {args : Array Value} {below : List Frame} {meth : Method} {c : Code} {D : va_G} {dA : Nat → ClassId} {s0 : Nat} {T : xT} {N : xT} {Z : Nat} {S : Nat} {I : xI} {L : xL} {R : xR} {H : Heap} {locs : List Loc} {ls : Array Slot}  {z0 : Int32} {ro : (Nat ⊕ Unit)} {To : xT} {No : xT} {Zo : Nat} {So : Nat} {Io : xI} {Ro : xR} (X : Cx D dA s0 p m c cX20_clause 3 s args RX20 meth) (hr : meth.sig.returnType = none) (htE : c.exceptionTable.toList = [])   (hf : fX20_clause_b158 nf (sv dA) T N Z S I L R z0 = some (ro, To, No, Zo, So, Io, Ro)) (V : Iv D dA s0 s T N Z I L R H locs) (hl : lv_has ls 3 []) (hB : cells + (Zo - Z) ≤ kc ∧ slots + (So - S) ≤ ks) : W p l e { frames := 1489, cells := kc, slots := ks, locals := 31894 } s m args below meth c H locs cells slots (vx_MQ below (yQ D dA s0 (rV ro) To No Zo Io L Ro) (yX D dA s0 (rV ro) To No Zo Io L Ro) args s kc ks (fun q => s0 ≤ q)) (F0 m 158 ls [.int z0]) := by
  have hx := X.1.1
  have hb := X.1.2.1
  unfold fX20_clause_b158 at hf
  refine lv_pop (pc := 158) hx hb dX20_clause_158 rfl ?_
  cases hf
  exact y_vret (pc := 159) X V hr (by omega) (by omega) dX20_clause_159
set_option maxHeartbeats 400000 in
set_option maxRecDepth 100000 in
theorem zX20_clause_b150 {nf : Nat} {dA : Nat → ClassId} {T : xT} {N : xT} {Z : Nat} {S : Nat} {I : xI} {L : xL} {R : xR}  {x0 : Nat} {x2 : Nat} {ro : (Nat ⊕ Unit)} {To : xT} {No : xT} {Zo : Nat} {So : Nat} {Io : xI} {Ro : xR}  (hf : fX20_clause_b150 nf (sv dA) T N Z S I L R x0 x2 = some (ro, To, No, Zo, So, Io, Ro)) : Z ≤ Zo ∧ S ≤ So := by
  unfold fX20_clause_b150 at hf
  replace hf := tg_s hf; obtain ⟨ht1, hf⟩ := hf
  replace hf := bs hf; obtain ⟨a2, ha2, hf⟩ := hf
  replace hf := tg_s hf; obtain ⟨ht11, hf⟩ := hf
  replace hf := b7s hf; obtain ⟨r3, T4, N5, Z6, S7, I8, R9, hk_10, hf⟩ := hf
  have hm_hk_10 := zJ2_add hk_10
  have hm := zX20_clause_b158 hf
  exact ⟨by omega, by omega⟩
set_option maxHeartbeats 400000 in
set_option maxRecDepth 100000 in
theorem wX20_clause_b150 {nf : Nat} {kc ks : Nat} {cells slots : Nat} {p : Program} {l : Launch} {e : Env} {s : State} {m : MethodId} {args : Array Value} {below : List Frame} {meth : Method} {c : Code} {D : va_G} {dA : Nat → ClassId} {s0 : Nat} {T : xT} {N : xT} {Z : Nat} {S : Nat} {I : xI} {L : xL} {R : xR} {H : Heap} {locs : List Loc} {ls : Array Slot}  {x0 : Nat} {x2 : Nat} {ro : (Nat ⊕ Unit)} {To : xT} {No : xT} {Zo : Nat} {So : Nat} {Io : xI} {Ro : xR} (X : Cx D dA s0 p m c cX20_clause 3 s args RX20 meth) (hr : meth.sig.returnType = none) (htE : c.exceptionTable.toList = [])   (hf : fX20_clause_b150 nf (sv dA) T N Z S I L R x0 x2 = some (ro, To, No, Zo, So, Io, Ro)) (V : Iv D dA s0 s T N Z I L R H locs) (hl : lv_has ls 3 [(0, .ref x0), (2, .ref x2)]) (hB : cells + (Zo - Z) ≤ kc ∧ slots + (So - S) ≤ ks) : W p l e { frames := 1489, cells := kc, slots := ks, locals := 31894 } s m args below meth c H locs cells slots (vx_MQ below (yQ D dA s0 (rV ro) To No Zo Io L Ro) (yX D dA s0 (rV ro) To No Zo Io L Ro) args s kc ks (fun q => s0 ≤ q)) (F0 m 150 ls []) := by
  have hx := X.1.1
  have hb := X.1.2.1
  unfold fX20_clause_b150 at hf
  refine lv_aload_n (pc := 150) hx hb dX20_clause_150 rfl (lv_at hl 0 rfl) ?_
  replace hf := tg_s hf; obtain ⟨ht1, hf⟩ := hf
  replace hf := bs hf; obtain ⟨a2, ha2, hf⟩ := hf
  refine x_get (pc := 151) X V okX20 ht1 7 (by decide) q1430 (v := va_rf (R x0 7)) rfl dX20_clause_151 ?_
  refine x_topr ha2 ?_
  refine lv_aload_n (pc := 154) hx hb dX20_clause_154 rfl (lv_at hl 1 rfl) ?_
  replace hf := tg_s hf; obtain ⟨ht11, hf⟩ := hf
  replace hf := b7s hf; obtain ⟨r3, T4, N5, Z6, S7, I8, R9, hk_10, hf⟩ := hf
  have hm_hk_10 := zJ2_add hk_10
  have hm := zX20_clause_b158 hf
  refine x_callV (pc := 155) (As := [.ref x2]) (rest := []) X V (mJ2_add l D dA s0 (kc := Z6 - Z) (ks := S7 - S) (Nat.le_refl _) (Nat.le_refl _) hk_10) okJ2 ht11 q1187 q1114 q1115 q124 q1116 ⟨rfl, hsJ2_add⟩ ⟨Nat.le_of_ble_eq_true rfl, Nat.le_of_ble_eq_true rfl⟩ rfl hl.1 rfl (Nat.le_of_ble_eq_true rfl) dX20_clause_155 ⟨by show _ ≤ kc; omega, by show _ ≤ ks; omega⟩ (fun H locs V => W.eq (g2 := F0 m 158 ls [.int r3]) rfl ?_)
  exact wX20_clause_b158 X hr htE hf V (lv_sub hl [] rfl) ⟨by omega, by omega⟩
set_option maxHeartbeats 400000 in
set_option maxRecDepth 100000 in
theorem zX20_clause_b147 {nf : Nat} {dA : Nat → ClassId} {T : xT} {N : xT} {Z : Nat} {S : Nat} {I : xI} {L : xL} {R : xR}  {x0 : Nat} {x2 : Nat} {z0 : Nat} {z1 : Nat} {ro : (Nat ⊕ Unit)} {To : xT} {No : xT} {Zo : Nat} {So : Nat} {Io : xI} {Ro : xR}  (hf : fX20_clause_b147 nf (sv dA) T N Z S I L R x0 x2 z0 z1 = some (ro, To, No, Zo, So, Io, Ro)) : Z ≤ Zo ∧ S ≤ So := by
  unfold fX20_clause_b147 at hf
  replace hf := tg_s hf; obtain ⟨ht1, hf⟩ := hf
  replace hf := nm_s hf; obtain ⟨R2, hR2, hf⟩ := hf
  have hm := zX20_clause_b150 hf
  exact ⟨by omega, by omega⟩
set_option maxHeartbeats 400000 in
set_option maxRecDepth 100000 in
theorem wX20_clause_b147 {nf : Nat} {kc ks : Nat} {cells slots : Nat} {p : Program} {l : Launch} {e : Env} {s : State} {m : MethodId} {args : Array Value} {below : List Frame} {meth : Method} {c : Code} {D : va_G} {dA : Nat → ClassId} {s0 : Nat} {T : xT} {N : xT} {Z : Nat} {S : Nat} {I : xI} {L : xL} {R : xR} {H : Heap} {locs : List Loc} {ls : Array Slot}  {x0 : Nat} {x2 : Nat} {z0 : Nat} {z1 : Nat} {ro : (Nat ⊕ Unit)} {To : xT} {No : xT} {Zo : Nat} {So : Nat} {Io : xI} {Ro : xR} (X : Cx D dA s0 p m c cX20_clause 3 s args RX20 meth) (hr : meth.sig.returnType = none) (htE : c.exceptionTable.toList = [])   (hf : fX20_clause_b147 nf (sv dA) T N Z S I L R x0 x2 z0 z1 = some (ro, To, No, Zo, So, Io, Ro)) (V : Iv D dA s0 s T N Z I L R H locs) (hl : lv_has ls 3 [(0, .ref x0), (2, .ref x2)]) (hB : cells + (Zo - Z) ≤ kc ∧ slots + (So - S) ≤ ks) : W p l e { frames := 1489, cells := kc, slots := ks, locals := 31894 } s m args below meth c H locs cells slots (vx_MQ below (yQ D dA s0 (rV ro) To No Zo Io L Ro) (yX D dA s0 (rV ro) To No Zo Io L Ro) args s kc ks (fun q => s0 ≤ q)) (F0 m 147 ls [.ref z1, .ref z0]) := by
  have hx := X.1.1
  have hb := X.1.2.1
  unfold fX20_clause_b147 at hf
  replace hf := tg_s hf; obtain ⟨ht1, hf⟩ := hf
  replace hf := nm_s hf; obtain ⟨R2, hR2, hf⟩ := hf
  refine x_putNr (pc := 147) X V okX18 (by decide) ht1 4 (by decide) q1159 rfl hR2 (fun _ _ _ => rfl) (v := .ref z1) rfl rfl rfl dX20_clause_147 (fun H locs V => ?_)
  exact wX20_clause_b150 X hr htE hf V (lv_sub hl [0, 1] rfl) ⟨by omega, by omega⟩
set_option maxHeartbeats 400000 in
set_option maxRecDepth 100000 in
theorem zX20_clause_b133 {nf : Nat} {dA : Nat → ClassId} {T : xT} {N : xT} {Z : Nat} {S : Nat} {I : xI} {L : xL} {R : xR}  {x0 : Nat} {x2 : Nat} {ro : (Nat ⊕ Unit)} {To : xT} {No : xT} {Zo : Nat} {So : Nat} {Io : xI} {Ro : xR}  (hf : fX20_clause_b133 nf (sv dA) T N Z S I L R x0 x2 = some (ro, To, No, Zo, So, Io, Ro)) : Z ≤ Zo ∧ S ≤ So := by
  unfold fX20_clause_b133 at hf
  replace hf := bs hf; obtain ⟨a1, ha1, hf⟩ := hf
  replace hf := tg_s hf; obtain ⟨ht5, hf⟩ := hf
  replace hf := b2s hf; obtain ⟨r2, I3, hk_4, hf⟩ := hf
  rcases (Decidable.em (r2 = (ii 0))) with c6 | c6
  · replace hf := if_t hf c6
    have hm := zX20_clause_b150 hf
    exact ⟨by omega, by omega⟩
  · replace hf := if_f hf c6
    replace hf := b7s hf; obtain ⟨r7, T8, N9, Z10, S11, I12, R13, hk_14, hf⟩ := hf
    have hm_hk_14 := zX6_test_rX20 12 hk_14
    replace hf := xc_s hf; rcases hf with ⟨a15, hr_17, hf⟩ | ⟨v16, hr_17, hf⟩
    · skip
      replace hf := tg_s hf; obtain ⟨ht18, hf⟩ := hf
      cases hf
      exact ⟨by omega, by omega⟩
    · skip
      have hm := zX20_clause_b147 hf
      exact ⟨by omega, by omega⟩
set_option maxHeartbeats 400000 in
set_option maxRecDepth 100000 in
theorem wX20_clause_b133 {nf : Nat} {kc ks : Nat} {cells slots : Nat} {p : Program} {l : Launch} {e : Env} {s : State} {m : MethodId} {args : Array Value} {below : List Frame} {meth : Method} {c : Code} {D : va_G} {dA : Nat → ClassId} {s0 : Nat} {T : xT} {N : xT} {Z : Nat} {S : Nat} {I : xI} {L : xL} {R : xR} {H : Heap} {locs : List Loc} {ls : Array Slot}  {x0 : Nat} {x2 : Nat} {ro : (Nat ⊕ Unit)} {To : xT} {No : xT} {Zo : Nat} {So : Nat} {Io : xI} {Ro : xR} (X : Cx D dA s0 p m c cX20_clause 3 s args RX20 meth) (hr : meth.sig.returnType = none) (htE : c.exceptionTable.toList = [])   (hf : fX20_clause_b133 nf (sv dA) T N Z S I L R x0 x2 = some (ro, To, No, Zo, So, Io, Ro)) (V : Iv D dA s0 s T N Z I L R H locs) (hl : lv_has ls 3 [(0, .ref x0), (2, .ref x2)]) (hB : cells + (Zo - Z) ≤ kc ∧ slots + (So - S) ≤ ks) : W p l e { frames := 1489, cells := kc, slots := ks, locals := 31894 } s m args below meth c H locs cells slots (vx_MQ below (yQ D dA s0 (rV ro) To No Zo Io L Ro) (yX D dA s0 (rV ro) To No Zo Io L Ro) args s kc ks (fun q => s0 ≤ q)) (F0 m 133 ls []) := by
  have hx := X.1.1
  have hb := X.1.2.1
  unfold fX20_clause_b133 at hf
  refine lv_aload_n (pc := 133) hx hb dX20_clause_133 rfl (lv_at hl 0 rfl) ?_
  replace hf := bs hf; obtain ⟨a1, ha1, hf⟩ := hf
  refine x_ldcS (pc := 134) X 41 rfl ha1 dX20_clause_134 ?_
  replace hf := tg_s hf; obtain ⟨ht5, hf⟩ := hf
  replace hf := b2s hf; obtain ⟨r2, I3, hk_4, hf⟩ := hf
  refine x_callU (pc := 136) (As := [.ref a1]) (rest := []) X V (mX6_takes_rX20 l D dA s0 hk_4) okX20 ht5 q1180 q1181 q1182 q932 q133 q936 rfl hsX6_takes_rX20 ⟨Nat.le_of_ble_eq_true rfl, Nat.le_of_ble_eq_true rfl⟩ rfl hl.1 rfl (Nat.le_of_ble_eq_true rfl) dX20_clause_136 ⟨by show cells ≤ kc; omega, by show slots ≤ ks; omega⟩ (fun H locs V => W.eq (g2 := F0 m 139 ls [.int r2]) rfl ?_)
  refine lv_if_eq (pc := 139) (tgt := 150) hx hb dX20_clause_139 (by decide) (fun c6 => ?_) (fun c6 => ?_)
  · replace hf := if_t hf c6
    exact wX20_clause_b150 X hr htE hf V (lv_sub hl [0, 1] rfl) ⟨by omega, by omega⟩
  · replace hf := if_f hf c6
    refine lv_aload_n (pc := 142) hx hb dX20_clause_142 rfl (lv_at hl 1 rfl) ?_
    refine lv_aload_n (pc := 143) hx hb dX20_clause_143 rfl (lv_at hl 0 rfl) ?_
    replace hf := b7s hf; obtain ⟨r7, T8, N9, Z10, S11, I12, R13, hk_14, hf⟩ := hf
    have hm_hk_14 := zX6_test_rX20 12 hk_14
    replace hf := xc_s hf; rcases hf with ⟨a15, hr_17, hf⟩ | ⟨v16, hr_17, hf⟩
    · rw [hr_17] at hk_14
      replace hf := tg_s hf; obtain ⟨ht18, hf⟩ := hf
      have hzE : Z10 = Zo := by cases hf; rfl
      have hsE : S11 = So := by cases hf; rfl
      refine y_afterX (y_runU (pc := 144) (As := []) (rest := [.ref x2]) X V (mX6_test_rX20 l D dA s0 12 (kc := Z10 - Z) (ks := S11 - S) (Nat.le_refl _) (Nat.le_refl _) hk_14) okX20 ht5 q1184 q1185 q1186 q1040 q133 q1041 rfl hsX6_test_rX20 ⟨Nat.le_of_ble_eq_true rfl, Nat.le_of_ble_eq_true rfl⟩ rfl hl.1 rfl (Nat.le_of_ble_eq_true rfl) dX20_clause_144 ⟨by show _ ≤ kc; omega, by show _ ≤ ks; omega⟩) V (fun H locs V => ?_)
      cases hf
      exact y_out X V htE okX8 ht18 (by omega) (by omega)
    · rw [hr_17] at hk_14
      have hm := zX20_clause_b147 hf
      refine y_afterR (y_runU (pc := 144) (As := []) (rest := [.ref x2]) X V (mX6_test_rX20 l D dA s0 12 (kc := Z10 - Z) (ks := S11 - S) (Nat.le_refl _) (Nat.le_refl _) hk_14) okX20 ht5 q1184 q1185 q1186 q1040 q133 q1041 rfl hsX6_test_rX20 ⟨Nat.le_of_ble_eq_true rfl, Nat.le_of_ble_eq_true rfl⟩ rfl hl.1 rfl (Nat.le_of_ble_eq_true rfl) dX20_clause_144 ⟨by show _ ≤ kc; omega, by show _ ≤ ks; omega⟩) V (fun H locs V => W.eq (g2 := F0 m 147 ls [.ref v16, .ref x2]) rfl ?_)
      exact wX20_clause_b147 X hr htE hf V (lv_sub hl [0, 1] rfl) ⟨by omega, by omega⟩
set_option maxHeartbeats 400000 in
set_option maxRecDepth 100000 in
theorem zX20_clause_b130 {nf : Nat} {dA : Nat → ClassId} {T : xT} {N : xT} {Z : Nat} {S : Nat} {I : xI} {L : xL} {R : xR}  {x0 : Nat} {x2 : Nat} {z0 : Nat} {z1 : Int32} {ro : (Nat ⊕ Unit)} {To : xT} {No : xT} {Zo : Nat} {So : Nat} {Io : xI} {Ro : xR}  (hf : fX20_clause_b130 nf (sv dA) T N Z S I L R x0 x2 z0 z1 = some (ro, To, No, Zo, So, Io, Ro)) : Z ≤ Zo ∧ S ≤ So := by
  unfold fX20_clause_b130 at hf
  replace hf := tg_s hf; obtain ⟨ht1, hf⟩ := hf
  replace hf := nm_s hf; obtain ⟨I2, hI2, hf⟩ := hf
  have hm := zX20_clause_b133 hf
  exact ⟨by omega, by omega⟩
set_option maxHeartbeats 400000 in
set_option maxRecDepth 100000 in
theorem wX20_clause_b130 {nf : Nat} {kc ks : Nat} {cells slots : Nat} {p : Program} {l : Launch} {e : Env} {s : State} {m : MethodId} {args : Array Value} {below : List Frame} {meth : Method} {c : Code} {D : va_G} {dA : Nat → ClassId} {s0 : Nat} {T : xT} {N : xT} {Z : Nat} {S : Nat} {I : xI} {L : xL} {R : xR} {H : Heap} {locs : List Loc} {ls : Array Slot}  {x0 : Nat} {x2 : Nat} {z0 : Nat} {z1 : Int32} {ro : (Nat ⊕ Unit)} {To : xT} {No : xT} {Zo : Nat} {So : Nat} {Io : xI} {Ro : xR} (X : Cx D dA s0 p m c cX20_clause 3 s args RX20 meth) (hr : meth.sig.returnType = none) (htE : c.exceptionTable.toList = [])   (hf : fX20_clause_b130 nf (sv dA) T N Z S I L R x0 x2 z0 z1 = some (ro, To, No, Zo, So, Io, Ro)) (V : Iv D dA s0 s T N Z I L R H locs) (hl : lv_has ls 3 [(0, .ref x0), (2, .ref x2)]) (hB : cells + (Zo - Z) ≤ kc ∧ slots + (So - S) ≤ ks) : W p l e { frames := 1489, cells := kc, slots := ks, locals := 31894 } s m args below meth c H locs cells slots (vx_MQ below (yQ D dA s0 (rV ro) To No Zo Io L Ro) (yX D dA s0 (rV ro) To No Zo Io L Ro) args s kc ks (fun q => s0 ≤ q)) (F0 m 130 ls [.int z1, .ref z0]) := by
  have hx := X.1.1
  have hb := X.1.2.1
  unfold fX20_clause_b130 at hf
  replace hf := tg_s hf; obtain ⟨ht1, hf⟩ := hf
  replace hf := nm_s hf; obtain ⟨I2, hI2, hf⟩ := hf
  refine x_putNi (pc := 130) X V okX18 (by decide) ht1 3 (by decide) q1156 rfl hI2 (fun _ _ _ => rfl) rfl rfl dX20_clause_130 (fun H locs V => ?_)
  exact wX20_clause_b133 X hr htE hf V (lv_sub hl [0, 1] rfl) ⟨by omega, by omega⟩
set_option maxHeartbeats 400000 in
set_option maxRecDepth 100000 in
theorem zX20_clause_b113 {nf : Nat} {dA : Nat → ClassId} {T : xT} {N : xT} {Z : Nat} {S : Nat} {I : xI} {L : xL} {R : xR}  {x0 : Nat} {x2 : Nat} {ro : (Nat ⊕ Unit)} {To : xT} {No : xT} {Zo : Nat} {So : Nat} {Io : xI} {Ro : xR}  (hf : fX20_clause_b113 nf (sv dA) T N Z S I L R x0 x2 = some (ro, To, No, Zo, So, Io, Ro)) : Z ≤ Zo ∧ S ≤ So := by
  unfold fX20_clause_b113 at hf
  replace hf := bs hf; obtain ⟨a1, ha1, hf⟩ := hf
  replace hf := tg_s hf; obtain ⟨ht5, hf⟩ := hf
  replace hf := b2s hf; obtain ⟨r2, I3, hk_4, hf⟩ := hf
  rcases (Decidable.em (r2 = (ii 0))) with c6 | c6
  · replace hf := if_t hf c6
    have hm := zX20_clause_b133 hf
    exact ⟨by omega, by omega⟩
  · replace hf := if_f hf c6
    replace hf := b7s hf; obtain ⟨r7, T8, N9, Z10, S11, I12, R13, hk_14, hf⟩ := hf
    have hm_hk_14 := zX6_number_rX20 hk_14
    replace hf := xc_s hf; rcases hf with ⟨a15, hr_17, hf⟩ | ⟨v16, hr_17, hf⟩
    · skip
      replace hf := tg_s hf; obtain ⟨ht18, hf⟩ := hf
      cases hf
      exact ⟨by omega, by omega⟩
    · skip
      have hm := zX20_clause_b130 hf
      exact ⟨by omega, by omega⟩
set_option maxHeartbeats 400000 in
set_option maxRecDepth 100000 in
theorem wX20_clause_b113 {nf : Nat} {kc ks : Nat} {cells slots : Nat} {p : Program} {l : Launch} {e : Env} {s : State} {m : MethodId} {args : Array Value} {below : List Frame} {meth : Method} {c : Code} {D : va_G} {dA : Nat → ClassId} {s0 : Nat} {T : xT} {N : xT} {Z : Nat} {S : Nat} {I : xI} {L : xL} {R : xR} {H : Heap} {locs : List Loc} {ls : Array Slot}  {x0 : Nat} {x2 : Nat} {ro : (Nat ⊕ Unit)} {To : xT} {No : xT} {Zo : Nat} {So : Nat} {Io : xI} {Ro : xR} (X : Cx D dA s0 p m c cX20_clause 3 s args RX20 meth) (hr : meth.sig.returnType = none) (htE : c.exceptionTable.toList = [])   (hf : fX20_clause_b113 nf (sv dA) T N Z S I L R x0 x2 = some (ro, To, No, Zo, So, Io, Ro)) (V : Iv D dA s0 s T N Z I L R H locs) (hl : lv_has ls 3 [(0, .ref x0), (2, .ref x2)]) (hB : cells + (Zo - Z) ≤ kc ∧ slots + (So - S) ≤ ks) : W p l e { frames := 1489, cells := kc, slots := ks, locals := 31894 } s m args below meth c H locs cells slots (vx_MQ below (yQ D dA s0 (rV ro) To No Zo Io L Ro) (yX D dA s0 (rV ro) To No Zo Io L Ro) args s kc ks (fun q => s0 ≤ q)) (F0 m 113 ls []) := by
  have hx := X.1.1
  have hb := X.1.2.1
  unfold fX20_clause_b113 at hf
  refine lv_aload_n (pc := 113) hx hb dX20_clause_113 rfl (lv_at hl 0 rfl) ?_
  replace hf := bs hf; obtain ⟨a1, ha1, hf⟩ := hf
  refine x_ldcS (pc := 114) X 40 rfl ha1 dX20_clause_114 ?_
  replace hf := tg_s hf; obtain ⟨ht5, hf⟩ := hf
  replace hf := b2s hf; obtain ⟨r2, I3, hk_4, hf⟩ := hf
  refine x_callU (pc := 116) (As := [.ref a1]) (rest := []) X V (mX6_takes_rX20 l D dA s0 hk_4) okX20 ht5 q1180 q1181 q1182 q932 q133 q936 rfl hsX6_takes_rX20 ⟨Nat.le_of_ble_eq_true rfl, Nat.le_of_ble_eq_true rfl⟩ rfl hl.1 rfl (Nat.le_of_ble_eq_true rfl) dX20_clause_116 ⟨by show cells ≤ kc; omega, by show slots ≤ ks; omega⟩ (fun H locs V => W.eq (g2 := F0 m 119 ls [.int r2]) rfl ?_)
  refine lv_if_eq (pc := 119) (tgt := 133) hx hb dX20_clause_119 (by decide) (fun c6 => ?_) (fun c6 => ?_)
  · replace hf := if_t hf c6
    exact wX20_clause_b133 X hr htE hf V (lv_sub hl [0, 1] rfl) ⟨by omega, by omega⟩
  · replace hf := if_f hf c6
    refine lv_aload_n (pc := 122) hx hb dX20_clause_122 rfl (lv_at hl 1 rfl) ?_
    refine lv_aload_n (pc := 123) hx hb dX20_clause_123 rfl (lv_at hl 0 rfl) ?_
    refine lv_iconst (pc := 124) (v := (ii 1)) hx hb dX20_clause_124 (by decide) ?_
    refine lv_bipush (pc := 125) (v := (ii 20)) hx hb dX20_clause_125 (by decide) ?_
    replace hf := b7s hf; obtain ⟨r7, T8, N9, Z10, S11, I12, R13, hk_14, hf⟩ := hf
    have hm_hk_14 := zX6_number_rX20 hk_14
    replace hf := xc_s hf; rcases hf with ⟨a15, hr_17, hf⟩ | ⟨v16, hr_17, hf⟩
    · rw [hr_17] at hk_14
      replace hf := tg_s hf; obtain ⟨ht18, hf⟩ := hf
      have hzE : Z10 = Zo := by cases hf; rfl
      have hsE : S11 = So := by cases hf; rfl
      refine y_afterX (y_runU (pc := 127) (As := [.int (ii 1), .int (ii 20)]) (rest := [.ref x2]) X V (mX6_number_rX20 l D dA s0 (kc := Z10 - Z) (ks := S11 - S) (Nat.le_refl _) (Nat.le_refl _) hk_14) okX20 ht5 q995 q996 q998 q946 q133 q950 rfl hsX6_number_rX20 ⟨Nat.le_of_ble_eq_true rfl, Nat.le_of_ble_eq_true rfl⟩ rfl hl.1 rfl (Nat.le_of_ble_eq_true rfl) dX20_clause_127 ⟨by show _ ≤ kc; omega, by show _ ≤ ks; omega⟩) V (fun H locs V => ?_)
      cases hf
      exact y_out X V htE okX8 ht18 (by omega) (by omega)
    · rw [hr_17] at hk_14
      have hm := zX20_clause_b130 hf
      refine y_afterR (y_runU (pc := 127) (As := [.int (ii 1), .int (ii 20)]) (rest := [.ref x2]) X V (mX6_number_rX20 l D dA s0 (kc := Z10 - Z) (ks := S11 - S) (Nat.le_refl _) (Nat.le_refl _) hk_14) okX20 ht5 q995 q996 q998 q946 q133 q950 rfl hsX6_number_rX20 ⟨Nat.le_of_ble_eq_true rfl, Nat.le_of_ble_eq_true rfl⟩ rfl hl.1 rfl (Nat.le_of_ble_eq_true rfl) dX20_clause_127 ⟨by show _ ≤ kc; omega, by show _ ≤ ks; omega⟩) V (fun H locs V => W.eq (g2 := F0 m 130 ls [.int v16, .ref x2]) rfl ?_)
      exact wX20_clause_b130 X hr htE hf V (lv_sub hl [0, 1] rfl) ⟨by omega, by omega⟩
set_option maxHeartbeats 400000 in
set_option maxRecDepth 100000 in
theorem zX20_clause_b110 {nf : Nat} {dA : Nat → ClassId} {T : xT} {N : xT} {Z : Nat} {S : Nat} {I : xI} {L : xL} {R : xR}  {x0 : Nat} {x2 : Nat} {z0 : Nat} {z1 : Nat} {ro : (Nat ⊕ Unit)} {To : xT} {No : xT} {Zo : Nat} {So : Nat} {Io : xI} {Ro : xR}  (hf : fX20_clause_b110 nf (sv dA) T N Z S I L R x0 x2 z0 z1 = some (ro, To, No, Zo, So, Io, Ro)) : Z ≤ Zo ∧ S ≤ So := by
  unfold fX20_clause_b110 at hf
  replace hf := tg_s hf; obtain ⟨ht1, hf⟩ := hf
  replace hf := nm_s hf; obtain ⟨R2, hR2, hf⟩ := hf
  have hm := zX20_clause_b113 hf
  exact ⟨by omega, by omega⟩
set_option maxHeartbeats 400000 in
set_option maxRecDepth 100000 in
theorem wX20_clause_b110 {nf : Nat} {kc ks : Nat} {cells slots : Nat} {p : Program} {l : Launch} {e : Env} {s : State} {m : MethodId} {args : Array Value} {below : List Frame} {meth : Method} {c : Code} {D : va_G} {dA : Nat → ClassId} {s0 : Nat} {T : xT} {N : xT} {Z : Nat} {S : Nat} {I : xI} {L : xL} {R : xR} {H : Heap} {locs : List Loc} {ls : Array Slot}  {x0 : Nat} {x2 : Nat} {z0 : Nat} {z1 : Nat} {ro : (Nat ⊕ Unit)} {To : xT} {No : xT} {Zo : Nat} {So : Nat} {Io : xI} {Ro : xR} (X : Cx D dA s0 p m c cX20_clause 3 s args RX20 meth) (hr : meth.sig.returnType = none) (htE : c.exceptionTable.toList = [])   (hf : fX20_clause_b110 nf (sv dA) T N Z S I L R x0 x2 z0 z1 = some (ro, To, No, Zo, So, Io, Ro)) (V : Iv D dA s0 s T N Z I L R H locs) (hl : lv_has ls 3 [(0, .ref x0), (2, .ref x2)]) (hB : cells + (Zo - Z) ≤ kc ∧ slots + (So - S) ≤ ks) : W p l e { frames := 1489, cells := kc, slots := ks, locals := 31894 } s m args below meth c H locs cells slots (vx_MQ below (yQ D dA s0 (rV ro) To No Zo Io L Ro) (yX D dA s0 (rV ro) To No Zo Io L Ro) args s kc ks (fun q => s0 ≤ q)) (F0 m 110 ls [.ref z1, .ref z0]) := by
  have hx := X.1.1
  have hb := X.1.2.1
  unfold fX20_clause_b110 at hf
  replace hf := tg_s hf; obtain ⟨ht1, hf⟩ := hf
  replace hf := nm_s hf; obtain ⟨R2, hR2, hf⟩ := hf
  refine x_putNr (pc := 110) X V okX18 (by decide) ht1 2 (by decide) q1153 rfl hR2 (fun _ _ _ => rfl) (v := .ref z1) rfl rfl rfl dX20_clause_110 (fun H locs V => ?_)
  exact wX20_clause_b113 X hr htE hf V (lv_sub hl [0, 1] rfl) ⟨by omega, by omega⟩
set_option maxHeartbeats 400000 in
set_option maxRecDepth 100000 in
theorem zX20_clause_b105 {nf : Nat} {dA : Nat → ClassId} {T : xT} {N : xT} {Z : Nat} {S : Nat} {I : xI} {L : xL} {R : xR}  {x0 : Nat} {x2 : Nat} {ro : (Nat ⊕ Unit)} {To : xT} {No : xT} {Zo : Nat} {So : Nat} {Io : xI} {Ro : xR}  (hf : fX20_clause_b105 nf (sv dA) T N Z S I L R x0 x2 = some (ro, To, No, Zo, So, Io, Ro)) : Z ≤ Zo ∧ S ≤ So := by
  unfold fX20_clause_b105 at hf
  replace hf := tg_s hf; obtain ⟨ht9, hf⟩ := hf
  replace hf := b7s hf; obtain ⟨r1, T2, N3, Z4, S5, I6, R7, hk_8, hf⟩ := hf
  have hm_hk_8 := zX6_sum_rX20 12 hk_8
  replace hf := xc_s hf; rcases hf with ⟨a10, hr_12, hf⟩ | ⟨v11, hr_12, hf⟩
  · skip
    replace hf := tg_s hf; obtain ⟨ht13, hf⟩ := hf
    cases hf
    exact ⟨by omega, by omega⟩
  · skip
    have hm := zX20_clause_b110 hf
    exact ⟨by omega, by omega⟩
set_option maxHeartbeats 400000 in
set_option maxRecDepth 100000 in
theorem wX20_clause_b105 {nf : Nat} {kc ks : Nat} {cells slots : Nat} {p : Program} {l : Launch} {e : Env} {s : State} {m : MethodId} {args : Array Value} {below : List Frame} {meth : Method} {c : Code} {D : va_G} {dA : Nat → ClassId} {s0 : Nat} {T : xT} {N : xT} {Z : Nat} {S : Nat} {I : xI} {L : xL} {R : xR} {H : Heap} {locs : List Loc} {ls : Array Slot}  {x0 : Nat} {x2 : Nat} {ro : (Nat ⊕ Unit)} {To : xT} {No : xT} {Zo : Nat} {So : Nat} {Io : xI} {Ro : xR} (X : Cx D dA s0 p m c cX20_clause 3 s args RX20 meth) (hr : meth.sig.returnType = none) (htE : c.exceptionTable.toList = [])   (hf : fX20_clause_b105 nf (sv dA) T N Z S I L R x0 x2 = some (ro, To, No, Zo, So, Io, Ro)) (V : Iv D dA s0 s T N Z I L R H locs) (hl : lv_has ls 3 [(0, .ref x0), (2, .ref x2)]) (hB : cells + (Zo - Z) ≤ kc ∧ slots + (So - S) ≤ ks) : W p l e { frames := 1489, cells := kc, slots := ks, locals := 31894 } s m args below meth c H locs cells slots (vx_MQ below (yQ D dA s0 (rV ro) To No Zo Io L Ro) (yX D dA s0 (rV ro) To No Zo Io L Ro) args s kc ks (fun q => s0 ≤ q)) (F0 m 105 ls []) := by
  have hx := X.1.1
  have hb := X.1.2.1
  unfold fX20_clause_b105 at hf
  refine lv_aload_n (pc := 105) hx hb dX20_clause_105 rfl (lv_at hl 1 rfl) ?_
  refine lv_aload_n (pc := 106) hx hb dX20_clause_106 rfl (lv_at hl 0 rfl) ?_
  replace hf := tg_s hf; obtain ⟨ht9, hf⟩ := hf
  replace hf := b7s hf; obtain ⟨r1, T2, N3, Z4, S5, I6, R7, hk_8, hf⟩ := hf
  have hm_hk_8 := zX6_sum_rX20 12 hk_8
  replace hf := xc_s hf; rcases hf with ⟨a10, hr_12, hf⟩ | ⟨v11, hr_12, hf⟩
  · rw [hr_12] at hk_8
    replace hf := tg_s hf; obtain ⟨ht13, hf⟩ := hf
    have hzE : Z4 = Zo := by cases hf; rfl
    have hsE : S5 = So := by cases hf; rfl
    refine y_afterX (y_runU (pc := 107) (As := []) (rest := [.ref x2]) X V (mX6_sum_rX20 l D dA s0 12 (kc := Z4 - Z) (ks := S5 - S) (Nat.le_refl _) (Nat.le_refl _) hk_8) okX20 ht9 q1171 q1172 q1173 q901 q133 q902 rfl hsX6_sum_rX20 ⟨Nat.le_of_ble_eq_true rfl, Nat.le_of_ble_eq_true rfl⟩ rfl hl.1 rfl (Nat.le_of_ble_eq_true rfl) dX20_clause_107 ⟨by show _ ≤ kc; omega, by show _ ≤ ks; omega⟩) V (fun H locs V => ?_)
    cases hf
    exact y_out X V htE okX8 ht13 (by omega) (by omega)
  · rw [hr_12] at hk_8
    have hm := zX20_clause_b110 hf
    refine y_afterR (y_runU (pc := 107) (As := []) (rest := [.ref x2]) X V (mX6_sum_rX20 l D dA s0 12 (kc := Z4 - Z) (ks := S5 - S) (Nat.le_refl _) (Nat.le_refl _) hk_8) okX20 ht9 q1171 q1172 q1173 q901 q133 q902 rfl hsX6_sum_rX20 ⟨Nat.le_of_ble_eq_true rfl, Nat.le_of_ble_eq_true rfl⟩ rfl hl.1 rfl (Nat.le_of_ble_eq_true rfl) dX20_clause_107 ⟨by show _ ≤ kc; omega, by show _ ≤ ks; omega⟩) V (fun H locs V => W.eq (g2 := F0 m 110 ls [.ref v11, .ref x2]) rfl ?_)
    exact wX20_clause_b110 X hr htE hf V (lv_sub hl [0, 1] rfl) ⟨by omega, by omega⟩
set_option maxHeartbeats 400000 in
set_option maxRecDepth 100000 in
theorem zX20_clause_b94 {nf : Nat} {dA : Nat → ClassId} {T : xT} {N : xT} {Z : Nat} {S : Nat} {I : xI} {L : xL} {R : xR}  {x0 : Nat} {x1 : Int32} {x2 : Nat} {ro : (Nat ⊕ Unit)} {To : xT} {No : xT} {Zo : Nat} {So : Nat} {Io : xI} {Ro : xR}  (hf : fX20_clause_b94 nf (sv dA) T N Z S I L R x0 x1 x2 = some (ro, To, No, Zo, So, Io, Ro)) : Z ≤ Zo ∧ S ≤ So := by
  unfold fX20_clause_b94 at hf
  rcases (Decidable.em (x1 = (ii 2))).symm with c1 | c1
  · replace hf := if_f hf c1
    have hm := zX20_clause_b113 hf
    exact ⟨by omega, by omega⟩
  · replace hf := if_t hf c1
    replace hf := bs hf; obtain ⟨a2, ha2, hf⟩ := hf
    replace hf := tg_s hf; obtain ⟨ht11, hf⟩ := hf
    replace hf := b7s hf; obtain ⟨r3, T4, N5, Z6, S7, I8, R9, hk_10, hf⟩ := hf
    have hm_hk_10 := zX6_need_rX20 hk_10
    replace hf := xc_s hf; rcases hf with ⟨a12, hr_14, hf⟩ | ⟨v13, hr_14, hf⟩
    · skip
      replace hf := tg_s hf; obtain ⟨ht15, hf⟩ := hf
      cases hf
      exact ⟨by omega, by omega⟩
    · skip
      have hm := zX20_clause_b105 hf
      exact ⟨by omega, by omega⟩
set_option maxHeartbeats 400000 in
set_option maxRecDepth 100000 in
theorem wX20_clause_b94 {nf : Nat} {kc ks : Nat} {cells slots : Nat} {p : Program} {l : Launch} {e : Env} {s : State} {m : MethodId} {args : Array Value} {below : List Frame} {meth : Method} {c : Code} {D : va_G} {dA : Nat → ClassId} {s0 : Nat} {T : xT} {N : xT} {Z : Nat} {S : Nat} {I : xI} {L : xL} {R : xR} {H : Heap} {locs : List Loc} {ls : Array Slot}  {x0 : Nat} {x1 : Int32} {x2 : Nat} {ro : (Nat ⊕ Unit)} {To : xT} {No : xT} {Zo : Nat} {So : Nat} {Io : xI} {Ro : xR} (X : Cx D dA s0 p m c cX20_clause 3 s args RX20 meth) (hr : meth.sig.returnType = none) (htE : c.exceptionTable.toList = [])   (hf : fX20_clause_b94 nf (sv dA) T N Z S I L R x0 x1 x2 = some (ro, To, No, Zo, So, Io, Ro)) (V : Iv D dA s0 s T N Z I L R H locs) (hl : lv_has ls 3 [(0, .ref x0), (1, .int x1), (2, .ref x2)]) (hB : cells + (Zo - Z) ≤ kc ∧ slots + (So - S) ≤ ks) : W p l e { frames := 1489, cells := kc, slots := ks, locals := 31894 } s m args below meth c H locs cells slots (vx_MQ below (yQ D dA s0 (rV ro) To No Zo Io L Ro) (yX D dA s0 (rV ro) To No Zo Io L Ro) args s kc ks (fun q => s0 ≤ q)) (F0 m 94 ls []) := by
  have hx := X.1.1
  have hb := X.1.2.1
  unfold fX20_clause_b94 at hf
  refine lv_iload_n (pc := 94) hx hb dX20_clause_94 rfl (lv_at hl 1 rfl) ?_
  refine lv_iconst (pc := 95) (v := (ii 2)) hx hb dX20_clause_95 (by decide) ?_
  refine lv_icmp_ne (pc := 96) (tgt := 113) hx hb dX20_clause_96 (by decide) (fun c1 => ?_) (fun c1 => ?_)
  · replace hf := if_f hf c1
    exact wX20_clause_b113 X hr htE hf V (lv_sub hl [0, 2] rfl) ⟨by omega, by omega⟩
  · replace hf := if_t hf c1
    refine lv_aload_n (pc := 99) hx hb dX20_clause_99 rfl (lv_at hl 0 rfl) ?_
    replace hf := bs hf; obtain ⟨a2, ha2, hf⟩ := hf
    refine x_ldcS (pc := 100) X 39 rfl ha2 dX20_clause_100 ?_
    replace hf := tg_s hf; obtain ⟨ht11, hf⟩ := hf
    replace hf := b7s hf; obtain ⟨r3, T4, N5, Z6, S7, I8, R9, hk_10, hf⟩ := hf
    have hm_hk_10 := zX6_need_rX20 hk_10
    replace hf := xc_s hf; rcases hf with ⟨a12, hr_14, hf⟩ | ⟨v13, hr_14, hf⟩
    · rw [hr_14] at hk_10
      replace hf := tg_s hf; obtain ⟨ht15, hf⟩ := hf
      have hzE : Z6 = Zo := by cases hf; rfl
      have hsE : S7 = So := by cases hf; rfl
      refine y_afterX (y_runU (pc := 102) (As := [.ref a2]) (rest := []) X V (mX6_need_rX20 l D dA s0 (kc := Z6 - Z) (ks := S7 - S) (Nat.le_refl _) (Nat.le_refl _) hk_10) okX20 ht11 q1175 q1176 q1178 q926 q133 q930 rfl hsX6_need_rX20 ⟨Nat.le_of_ble_eq_true rfl, Nat.le_of_ble_eq_true rfl⟩ rfl hl.1 rfl (Nat.le_of_ble_eq_true rfl) dX20_clause_102 ⟨by show _ ≤ kc; omega, by show _ ≤ ks; omega⟩) V (fun H locs V => ?_)
      cases hf
      exact y_out X V htE okX8 ht15 (by omega) (by omega)
    · rw [hr_14] at hk_10
      have hm := zX20_clause_b105 hf
      refine y_afterR (y_runU (pc := 102) (As := [.ref a2]) (rest := []) X V (mX6_need_rX20 l D dA s0 (kc := Z6 - Z) (ks := S7 - S) (Nat.le_refl _) (Nat.le_refl _) hk_10) okX20 ht11 q1175 q1176 q1178 q926 q133 q930 rfl hsX6_need_rX20 ⟨Nat.le_of_ble_eq_true rfl, Nat.le_of_ble_eq_true rfl⟩ rfl hl.1 rfl (Nat.le_of_ble_eq_true rfl) dX20_clause_102 ⟨by show _ ≤ kc; omega, by show _ ≤ ks; omega⟩) V (fun H locs V => W.eq (g2 := F0 m 105 ls []) rfl ?_)
      exact wX20_clause_b105 X hr htE hf V (lv_sub hl [0, 2] rfl) ⟨by omega, by omega⟩
set_option maxHeartbeats 400000 in
set_option maxRecDepth 100000 in
theorem zX20_clause_b91 {nf : Nat} {dA : Nat → ClassId} {T : xT} {N : xT} {Z : Nat} {S : Nat} {I : xI} {L : xL} {R : xR}  {x0 : Nat} {x1 : Int32} {x2 : Nat} {z0 : Nat} {z1 : Nat} {ro : (Nat ⊕ Unit)} {To : xT} {No : xT} {Zo : Nat} {So : Nat} {Io : xI} {Ro : xR}  (hf : fX20_clause_b91 nf (sv dA) T N Z S I L R x0 x1 x2 z0 z1 = some (ro, To, No, Zo, So, Io, Ro)) : Z ≤ Zo ∧ S ≤ So := by
  unfold fX20_clause_b91 at hf
  replace hf := tg_s hf; obtain ⟨ht1, hf⟩ := hf
  replace hf := nm_s hf; obtain ⟨R2, hR2, hf⟩ := hf
  have hm := zX20_clause_b94 hf
  exact ⟨by omega, by omega⟩
set_option maxHeartbeats 400000 in
set_option maxRecDepth 100000 in
theorem wX20_clause_b91 {nf : Nat} {kc ks : Nat} {cells slots : Nat} {p : Program} {l : Launch} {e : Env} {s : State} {m : MethodId} {args : Array Value} {below : List Frame} {meth : Method} {c : Code} {D : va_G} {dA : Nat → ClassId} {s0 : Nat} {T : xT} {N : xT} {Z : Nat} {S : Nat} {I : xI} {L : xL} {R : xR} {H : Heap} {locs : List Loc} {ls : Array Slot}  {x0 : Nat} {x1 : Int32} {x2 : Nat} {z0 : Nat} {z1 : Nat} {ro : (Nat ⊕ Unit)} {To : xT} {No : xT} {Zo : Nat} {So : Nat} {Io : xI} {Ro : xR} (X : Cx D dA s0 p m c cX20_clause 3 s args RX20 meth) (hr : meth.sig.returnType = none) (htE : c.exceptionTable.toList = [])   (hf : fX20_clause_b91 nf (sv dA) T N Z S I L R x0 x1 x2 z0 z1 = some (ro, To, No, Zo, So, Io, Ro)) (V : Iv D dA s0 s T N Z I L R H locs) (hl : lv_has ls 3 [(0, .ref x0), (1, .int x1), (2, .ref x2)]) (hB : cells + (Zo - Z) ≤ kc ∧ slots + (So - S) ≤ ks) : W p l e { frames := 1489, cells := kc, slots := ks, locals := 31894 } s m args below meth c H locs cells slots (vx_MQ below (yQ D dA s0 (rV ro) To No Zo Io L Ro) (yX D dA s0 (rV ro) To No Zo Io L Ro) args s kc ks (fun q => s0 ≤ q)) (F0 m 91 ls [.ref z1, .ref z0]) := by
  have hx := X.1.1
  have hb := X.1.2.1
  unfold fX20_clause_b91 at hf
  replace hf := tg_s hf; obtain ⟨ht1, hf⟩ := hf
  replace hf := nm_s hf; obtain ⟨R2, hR2, hf⟩ := hf
  refine x_putNr (pc := 91) X V okX18 (by decide) ht1 1 (by decide) q1151 rfl hR2 (fun _ _ _ => rfl) (v := .ref z1) rfl rfl rfl dX20_clause_91 (fun H locs V => ?_)
  exact wX20_clause_b94 X hr htE hf V (lv_sub hl [0, 1, 2] rfl) ⟨by omega, by omega⟩
set_option maxHeartbeats 400000 in
set_option maxRecDepth 100000 in
theorem zX20_clause_b75 {nf : Nat} {dA : Nat → ClassId} {T : xT} {N : xT} {Z : Nat} {S : Nat} {I : xI} {L : xL} {R : xR}  {x0 : Nat} {x1 : Int32} {z0 : Nat} {ro : (Nat ⊕ Unit)} {To : xT} {No : xT} {Zo : Nat} {So : Nat} {Io : xI} {Ro : xR}  (hf : fX20_clause_b75 nf (sv dA) T N Z S I L R x0 x1 z0 = some (ro, To, No, Zo, So, Io, Ro)) : Z ≤ Zo ∧ S ≤ So := by
  unfold fX20_clause_b75 at hf
  replace hf := bs hf; obtain ⟨I1, hk_2, hf⟩ := hf
  rcases (Decidable.em (x1 = (ii 3))) with c3 | c3
  · replace hf := if_t hf c3
    have hm := zX20_clause_b94 hf
    exact ⟨by omega, by omega⟩
  · replace hf := if_f hf c3
    replace hf := tg_s hf; obtain ⟨ht12, hf⟩ := hf
    replace hf := b7s hf; obtain ⟨r4, T5, N6, Z7, S8, I9, R10, hk_11, hf⟩ := hf
    have hm_hk_11 := zX6_sum_rX20 12 hk_11
    replace hf := xc_s hf; rcases hf with ⟨a13, hr_15, hf⟩ | ⟨v14, hr_15, hf⟩
    · skip
      replace hf := tg_s hf; obtain ⟨ht16, hf⟩ := hf
      cases hf
      exact ⟨by omega, by omega⟩
    · skip
      have hm := zX20_clause_b91 hf
      exact ⟨by omega, by omega⟩
set_option maxHeartbeats 400000 in
set_option maxRecDepth 100000 in
theorem wX20_clause_b75 {nf : Nat} {kc ks : Nat} {cells slots : Nat} {p : Program} {l : Launch} {e : Env} {s : State} {m : MethodId} {args : Array Value} {below : List Frame} {meth : Method} {c : Code} {D : va_G} {dA : Nat → ClassId} {s0 : Nat} {T : xT} {N : xT} {Z : Nat} {S : Nat} {I : xI} {L : xL} {R : xR} {H : Heap} {locs : List Loc} {ls : Array Slot}  {x0 : Nat} {x1 : Int32} {z0 : Nat} {ro : (Nat ⊕ Unit)} {To : xT} {No : xT} {Zo : Nat} {So : Nat} {Io : xI} {Ro : xR} (X : Cx D dA s0 p m c cX20_clause 3 s args RX20 meth) (hr : meth.sig.returnType = none) (htE : c.exceptionTable.toList = [])   (hf : fX20_clause_b75 nf (sv dA) T N Z S I L R x0 x1 z0 = some (ro, To, No, Zo, So, Io, Ro)) (V : Iv D dA s0 s T N Z I L R H locs) (hl : lv_has ls 3 [(0, .ref x0), (1, .int x1)]) (hB : cells + (Zo - Z) ≤ kc ∧ slots + (So - S) ≤ ks) : W p l e { frames := 1489, cells := kc, slots := ks, locals := 31894 } s m args below meth c H locs cells slots (vx_MQ below (yQ D dA s0 (rV ro) To No Zo Io L Ro) (yX D dA s0 (rV ro) To No Zo Io L Ro) args s kc ks (fun q => s0 ≤ q)) (F0 m 75 ls [.ref z0]) := by
  have hx := X.1.1
  have hb := X.1.2.1
  unfold fX20_clause_b75 at hf
  refine lv_dup (pc := 75) hx hb dX20_clause_75 rfl ?_
  refine lv_iload_n (pc := 76) hx hb dX20_clause_76 rfl (lv_at hl 1 rfl) ?_
  replace hf := bs hf; obtain ⟨I1, hk_2, hf⟩ := hf
  refine x_callI0 (pc := 77) (As := [.int x1]) (rest := [.ref z0]) X V (mX18_init l D dA s0 hk_2) q1145 q1146 q151 q1147 rfl hsX18_init ⟨Nat.le_of_ble_eq_true rfl, Nat.le_of_ble_eq_true rfl⟩ rfl hl.1 rfl (Nat.le_of_ble_eq_true rfl) dX20_clause_77 ⟨by show cells ≤ kc; omega, by show slots ≤ ks; omega⟩ (fun H locs V => W.eq (g2 := F0 m 80 ls [.ref z0]) rfl ?_)
  refine lv_astore_n (pc := 80) (lv' := [(2, .ref z0), (0, .ref x0), (1, .int x1)]) hx hb dX20_clause_80 rfl hl (by decide) rfl (fun ls hl => ?_)
  refine lv_iload_n (pc := 81) hx hb dX20_clause_81 rfl (lv_at hl 2 rfl) ?_
  refine lv_iconst (pc := 82) (v := (ii 3)) hx hb dX20_clause_82 (by decide) ?_
  refine lv_icmp_eq (pc := 83) (tgt := 94) hx hb dX20_clause_83 (by decide) (fun c3 => ?_) (fun c3 => ?_)
  · replace hf := if_t hf c3
    exact wX20_clause_b94 X hr htE hf V (lv_sub hl [1, 2, 0] rfl) ⟨by omega, by omega⟩
  · replace hf := if_f hf c3
    refine lv_aload_n (pc := 86) hx hb dX20_clause_86 rfl (lv_at hl 0 rfl) ?_
    refine lv_aload_n (pc := 87) hx hb dX20_clause_87 rfl (lv_at hl 1 rfl) ?_
    replace hf := tg_s hf; obtain ⟨ht12, hf⟩ := hf
    replace hf := b7s hf; obtain ⟨r4, T5, N6, Z7, S8, I9, R10, hk_11, hf⟩ := hf
    have hm_hk_11 := zX6_sum_rX20 12 hk_11
    replace hf := xc_s hf; rcases hf with ⟨a13, hr_15, hf⟩ | ⟨v14, hr_15, hf⟩
    · rw [hr_15] at hk_11
      replace hf := tg_s hf; obtain ⟨ht16, hf⟩ := hf
      have hzE : Z7 = Zo := by cases hf; rfl
      have hsE : S8 = So := by cases hf; rfl
      refine y_afterX (y_runU (pc := 88) (As := []) (rest := [.ref z0]) X V (mX6_sum_rX20 l D dA s0 12 (kc := Z7 - Z) (ks := S8 - S) (Nat.le_refl _) (Nat.le_refl _) hk_11) okX20 ht12 q1171 q1172 q1173 q901 q133 q902 rfl hsX6_sum_rX20 ⟨Nat.le_of_ble_eq_true rfl, Nat.le_of_ble_eq_true rfl⟩ rfl hl.1 rfl (Nat.le_of_ble_eq_true rfl) dX20_clause_88 ⟨by show _ ≤ kc; omega, by show _ ≤ ks; omega⟩) V (fun H locs V => ?_)
      cases hf
      exact y_out X V htE okX8 ht16 (by omega) (by omega)
    · rw [hr_15] at hk_11
      have hm := zX20_clause_b91 hf
      refine y_afterR (y_runU (pc := 88) (As := []) (rest := [.ref z0]) X V (mX6_sum_rX20 l D dA s0 12 (kc := Z7 - Z) (ks := S8 - S) (Nat.le_refl _) (Nat.le_refl _) hk_11) okX20 ht12 q1171 q1172 q1173 q901 q133 q902 rfl hsX6_sum_rX20 ⟨Nat.le_of_ble_eq_true rfl, Nat.le_of_ble_eq_true rfl⟩ rfl hl.1 rfl (Nat.le_of_ble_eq_true rfl) dX20_clause_88 ⟨by show _ ≤ kc; omega, by show _ ≤ ks; omega⟩) V (fun H locs V => W.eq (g2 := F0 m 91 ls [.ref v14, .ref z0]) rfl ?_)
      exact wX20_clause_b91 X hr htE hf V (lv_sub hl [1, 2, 0] rfl) ⟨by omega, by omega⟩
set_option maxHeartbeats 400000 in
set_option maxRecDepth 100000 in
theorem zX20_clause_b68 {nf : Nat} {dA : Nat → ClassId} {T : xT} {N : xT} {Z : Nat} {S : Nat} {I : xI} {L : xL} {R : xR}  {x0 : Nat} {x1 : Int32} {ro : (Nat ⊕ Unit)} {To : xT} {No : xT} {Zo : Nat} {So : Nat} {Io : xI} {Ro : xR}  (hf : fX20_clause_b68 nf (sv dA) T N Z S I L R x0 x1 = some (ro, To, No, Zo, So, Io, Ro)) : Z ≤ Zo ∧ S ≤ So := by
  unfold fX20_clause_b68 at hf
  replace hf := tg_s hf; obtain ⟨ht3, hf⟩ := hf
  replace hf := bs hf; obtain ⟨I1, hk_2, hf⟩ := hf
  replace hf := nm_s hf; obtain ⟨T4, hT4, hf⟩ := hf
  replace hf := nm_s hf; obtain ⟨Z5, hZ5, hf⟩ := hf
  replace hf := nm_s hf; obtain ⟨S6, hS6, hf⟩ := hf
  have hm := zX20_clause_b75 hf
  exact ⟨by omega, by omega⟩
set_option maxHeartbeats 400000 in
set_option maxRecDepth 100000 in
theorem wX20_clause_b68 {nf : Nat} {kc ks : Nat} {cells slots : Nat} {p : Program} {l : Launch} {e : Env} {s : State} {m : MethodId} {args : Array Value} {below : List Frame} {meth : Method} {c : Code} {D : va_G} {dA : Nat → ClassId} {s0 : Nat} {T : xT} {N : xT} {Z : Nat} {S : Nat} {I : xI} {L : xL} {R : xR} {H : Heap} {locs : List Loc} {ls : Array Slot}  {x0 : Nat} {x1 : Int32} {ro : (Nat ⊕ Unit)} {To : xT} {No : xT} {Zo : Nat} {So : Nat} {Io : xI} {Ro : xR} (X : Cx D dA s0 p m c cX20_clause 3 s args RX20 meth) (hr : meth.sig.returnType = none) (htE : c.exceptionTable.toList = [])   (hf : fX20_clause_b68 nf (sv dA) T N Z S I L R x0 x1 = some (ro, To, No, Zo, So, Io, Ro)) (V : Iv D dA s0 s T N Z I L R H locs) (hl : lv_has ls 3 [(0, .ref x0), (1, .int x1)]) (hB : cells + (Zo - Z) ≤ kc ∧ slots + (So - S) ≤ ks) : W p l e { frames := 1489, cells := kc, slots := ks, locals := 31894 } s m args below meth c H locs cells slots (vx_MQ below (yQ D dA s0 (rV ro) To No Zo Io L Ro) (yX D dA s0 (rV ro) To No Zo Io L Ro) args s kc ks (fun q => s0 ≤ q)) (F0 m 68 ls []) := by
  have hx := X.1.1
  have hb := X.1.2.1
  unfold fX20_clause_b68 at hf
  refine lv_aload_n (pc := 68) hx hb dX20_clause_68 rfl (lv_at hl 0 rfl) ?_
  replace hf := tg_s hf; obtain ⟨ht3, hf⟩ := hf
  replace hf := bs hf; obtain ⟨I1, hk_2, hf⟩ := hf
  refine x_callU (pc := 69) (As := []) (rest := []) X V (mX6_next_rX20 l D dA s0 hk_2) okX20 ht3 q1140 q1141 q1142 q777 q133 q781 rfl hsX6_next_rX20 ⟨Nat.le_of_ble_eq_true rfl, Nat.le_of_ble_eq_true rfl⟩ rfl hl.1 rfl (Nat.le_of_ble_eq_true rfl) dX20_clause_69 ⟨by show cells ≤ kc; omega, by show slots ≤ ks; omega⟩ (fun H locs V => W.eq (g2 := F0 m 72 ls []) rfl ?_)
  replace hf := nm_s hf; obtain ⟨T4, hT4, hf⟩ := hf
  replace hf := nm_s hf; obtain ⟨Z5, hZ5, hf⟩ := hf
  replace hf := nm_s hf; obtain ⟨S6, hS6, hf⟩ := hf
  have hm := zX20_clause_b75 hf
  refine x_new (pc := 72) X V okX18 hT4 hZ5 q1143 q1144 q151 (by show _ ≤ kc; omega) (by show _ ≤ ks; omega) dX20_clause_72 (fun H V => ?_)
  exact wX20_clause_b75 X hr htE hf V (lv_sub hl [0, 1] rfl) ⟨by omega, by omega⟩
set_option maxHeartbeats 400000 in
set_option maxRecDepth 100000 in
theorem zX20_clause_b65 {nf : Nat} {dA : Nat → ClassId} {T : xT} {N : xT} {Z : Nat} {S : Nat} {I : xI} {L : xL} {R : xR}  {x0 : Nat} {x1 : Int32} {z0 : Nat} {z1 : Int32} {ro : (Nat ⊕ Unit)} {To : xT} {No : xT} {Zo : Nat} {So : Nat} {Io : xI} {Ro : xR}  (hf : fX20_clause_b65 nf (sv dA) T N Z S I L R x0 x1 z0 z1 = some (ro, To, No, Zo, So, Io, Ro)) : Z ≤ Zo ∧ S ≤ So := by
  unfold fX20_clause_b65 at hf
  replace hf := tg_s hf; obtain ⟨ht9, hf⟩ := hf
  replace hf := b7s hf; obtain ⟨r1, T2, N3, Z4, S5, I6, R7, hk_8, hf⟩ := hf
  have hm_hk_8 := zX6_begins_rX20 hk_8
  replace hf := xc_s hf; rcases hf with ⟨a10, hr_12, hf⟩ | ⟨v11, hr_12, hf⟩
  · skip
    replace hf := tg_s hf; obtain ⟨ht13, hf⟩ := hf
    cases hf
    exact ⟨by omega, by omega⟩
  · skip
    have hm := zX20_clause_b68 hf
    exact ⟨by omega, by omega⟩
set_option maxHeartbeats 400000 in
set_option maxRecDepth 100000 in
theorem wX20_clause_b65 {nf : Nat} {kc ks : Nat} {cells slots : Nat} {p : Program} {l : Launch} {e : Env} {s : State} {m : MethodId} {args : Array Value} {below : List Frame} {meth : Method} {c : Code} {D : va_G} {dA : Nat → ClassId} {s0 : Nat} {T : xT} {N : xT} {Z : Nat} {S : Nat} {I : xI} {L : xL} {R : xR} {H : Heap} {locs : List Loc} {ls : Array Slot}  {x0 : Nat} {x1 : Int32} {z0 : Nat} {z1 : Int32} {ro : (Nat ⊕ Unit)} {To : xT} {No : xT} {Zo : Nat} {So : Nat} {Io : xI} {Ro : xR} (X : Cx D dA s0 p m c cX20_clause 3 s args RX20 meth) (hr : meth.sig.returnType = none) (htE : c.exceptionTable.toList = [])   (hf : fX20_clause_b65 nf (sv dA) T N Z S I L R x0 x1 z0 z1 = some (ro, To, No, Zo, So, Io, Ro)) (V : Iv D dA s0 s T N Z I L R H locs) (hl : lv_has ls 3 [(0, .ref x0), (1, .int x1)]) (hB : cells + (Zo - Z) ≤ kc ∧ slots + (So - S) ≤ ks) : W p l e { frames := 1489, cells := kc, slots := ks, locals := 31894 } s m args below meth c H locs cells slots (vx_MQ below (yQ D dA s0 (rV ro) To No Zo Io L Ro) (yX D dA s0 (rV ro) To No Zo Io L Ro) args s kc ks (fun q => s0 ≤ q)) (F0 m 65 ls [.int z1, .ref z0]) := by
  have hx := X.1.1
  have hb := X.1.2.1
  unfold fX20_clause_b65 at hf
  replace hf := tg_s hf; obtain ⟨ht9, hf⟩ := hf
  replace hf := b7s hf; obtain ⟨r1, T2, N3, Z4, S5, I6, R7, hk_8, hf⟩ := hf
  have hm_hk_8 := zX6_begins_rX20 hk_8
  replace hf := xc_s hf; rcases hf with ⟨a10, hr_12, hf⟩ | ⟨v11, hr_12, hf⟩
  · rw [hr_12] at hk_8
    replace hf := tg_s hf; obtain ⟨ht13, hf⟩ := hf
    have hzE : Z4 = Zo := by cases hf; rfl
    have hsE : S5 = So := by cases hf; rfl
    refine y_afterX (y_runU (pc := 65) (As := [.int z1]) (rest := []) X V (mX6_begins_rX20 l D dA s0 (kc := Z4 - Z) (ks := S5 - S) (Nat.le_refl _) (Nat.le_refl _) hk_8) okX20 ht9 q1137 q1138 q1139 q853 q133 q854 rfl hsX6_begins_rX20 ⟨Nat.le_of_ble_eq_true rfl, Nat.le_of_ble_eq_true rfl⟩ rfl hl.1 rfl (Nat.le_of_ble_eq_true rfl) dX20_clause_65 ⟨by show _ ≤ kc; omega, by show _ ≤ ks; omega⟩) V (fun H locs V => ?_)
    cases hf
    exact y_out X V htE okX8 ht13 (by omega) (by omega)
  · rw [hr_12] at hk_8
    have hm := zX20_clause_b68 hf
    refine y_afterR (y_runU (pc := 65) (As := [.int z1]) (rest := []) X V (mX6_begins_rX20 l D dA s0 (kc := Z4 - Z) (ks := S5 - S) (Nat.le_refl _) (Nat.le_refl _) hk_8) okX20 ht9 q1137 q1138 q1139 q853 q133 q854 rfl hsX6_begins_rX20 ⟨Nat.le_of_ble_eq_true rfl, Nat.le_of_ble_eq_true rfl⟩ rfl hl.1 rfl (Nat.le_of_ble_eq_true rfl) dX20_clause_65 ⟨by show _ ≤ kc; omega, by show _ ≤ ks; omega⟩) V (fun H locs V => W.eq (g2 := F0 m 68 ls []) rfl ?_)
    exact wX20_clause_b68 X hr htE hf V (lv_sub hl [0, 1] rfl) ⟨by omega, by omega⟩
set_option maxHeartbeats 400000 in
set_option maxRecDepth 100000 in
theorem zX20_clause_b53 {nf : Nat} {dA : Nat → ClassId} {T : xT} {N : xT} {Z : Nat} {S : Nat} {I : xI} {L : xL} {R : xR}  {x0 : Nat} {z0 : Int32} {ro : (Nat ⊕ Unit)} {To : xT} {No : xT} {Zo : Nat} {So : Nat} {Io : xI} {Ro : xR}  (hf : fX20_clause_b53 nf (sv dA) T N Z S I L R x0 z0 = some (ro, To, No, Zo, So, Io, Ro)) : Z ≤ Zo ∧ S ≤ So := by
  unfold fX20_clause_b53 at hf
  rcases (Decidable.em (z0 = (-1 : Int32))) with c1 | c1
  · replace hf := if_t hf c1
    have hm := zX20_clause_b65 hf
    exact ⟨by omega, by omega⟩
  · replace hf := if_f hf c1
    have hm := zX20_clause_b65 hf
    exact ⟨by omega, by omega⟩
set_option maxHeartbeats 400000 in
set_option maxRecDepth 100000 in
theorem wX20_clause_b53 {nf : Nat} {kc ks : Nat} {cells slots : Nat} {p : Program} {l : Launch} {e : Env} {s : State} {m : MethodId} {args : Array Value} {below : List Frame} {meth : Method} {c : Code} {D : va_G} {dA : Nat → ClassId} {s0 : Nat} {T : xT} {N : xT} {Z : Nat} {S : Nat} {I : xI} {L : xL} {R : xR} {H : Heap} {locs : List Loc} {ls : Array Slot}  {x0 : Nat} {z0 : Int32} {ro : (Nat ⊕ Unit)} {To : xT} {No : xT} {Zo : Nat} {So : Nat} {Io : xI} {Ro : xR} (X : Cx D dA s0 p m c cX20_clause 3 s args RX20 meth) (hr : meth.sig.returnType = none) (htE : c.exceptionTable.toList = [])   (hf : fX20_clause_b53 nf (sv dA) T N Z S I L R x0 z0 = some (ro, To, No, Zo, So, Io, Ro)) (V : Iv D dA s0 s T N Z I L R H locs) (hl : lv_has ls 3 [(0, .ref x0)]) (hB : cells + (Zo - Z) ≤ kc ∧ slots + (So - S) ≤ ks) : W p l e { frames := 1489, cells := kc, slots := ks, locals := 31894 } s m args below meth c H locs cells slots (vx_MQ below (yQ D dA s0 (rV ro) To No Zo Io L Ro) (yX D dA s0 (rV ro) To No Zo Io L Ro) args s kc ks (fun q => s0 ≤ q)) (F0 m 53 ls [.int z0]) := by
  have hx := X.1.1
  have hb := X.1.2.1
  unfold fX20_clause_b53 at hf
  refine lv_istore_n (pc := 53) (lv' := [(1, .int z0), (0, .ref x0)]) hx hb dX20_clause_53 rfl hl (by decide) rfl (fun ls hl => ?_)
  refine lv_aload_n (pc := 54) hx hb dX20_clause_54 rfl (lv_at hl 1 rfl) ?_
  refine lv_iload_n (pc := 55) hx hb dX20_clause_55 rfl (lv_at hl 0 rfl) ?_
  refine lv_iconst (pc := 56) (v := (-1 : Int32)) hx hb dX20_clause_56 (by decide) ?_
  refine lv_icmp_eq (pc := 57) (tgt := 64) hx hb dX20_clause_57 (by decide) (fun c1 => ?_) (fun c1 => ?_)
  · replace hf := if_t hf c1
    refine lv_iconst (pc := 64) (v := (ii 0)) hx hb dX20_clause_64 (by decide) ?_
    exact wX20_clause_b65 X hr htE hf V (lv_sub hl [1, 0] rfl) ⟨by omega, by omega⟩
  · replace hf := if_f hf c1
    refine lv_iconst (pc := 60) (v := (ii 1)) hx hb dX20_clause_60 (by decide) ?_
    refine lv_goto (pc := 61) (tgt := 65) hx hb dX20_clause_61 (by decide) ?_
    exact wX20_clause_b65 X hr htE hf V (lv_sub hl [1, 0] rfl) ⟨by omega, by omega⟩
set_option maxHeartbeats 400000 in
set_option maxRecDepth 100000 in
theorem zX20_clause {nf : Nat} {dA : Nat → ClassId} {T : xT} {N : xT} {Z : Nat} {S : Nat} {I : xI} {L : xL} {R : xR} {x0 : Nat} {ro : (Nat ⊕ Unit)} {To : xT} {No : xT} {Zo : Nat} {So : Nat} {Io : xI} {Ro : xR} (hf : fX20_clause nf (sv dA) T N Z S I L R x0 = some (ro, To, No, Zo, So, Io, Ro)) : Z ≤ Zo ∧ S ≤ So := by
  unfold fX20_clause at hf
  replace hf := bs hf; obtain ⟨a1, ha1, hf⟩ := hf
  replace hf := tg_s hf; obtain ⟨ht4, hf⟩ := hf
  replace hf := bs hf; obtain ⟨r2, hk_3, hf⟩ := hf
  rcases (Decidable.em (r2 = (ii 0))) with c5 | c5
  · replace hf := if_t hf c5
    replace hf := bs hf; obtain ⟨a6, ha6, hf⟩ := hf
    replace hf := bs hf; obtain ⟨r7, hk_8, hf⟩ := hf
    rcases (Decidable.em (r7 = (ii 0))) with c9 | c9
    · replace hf := if_t hf c9
      replace hf := bs hf; obtain ⟨a10, ha10, hf⟩ := hf
      replace hf := bs hf; obtain ⟨r11, hk_12, hf⟩ := hf
      rcases (Decidable.em (r11 = (ii 0))) with c13 | c13
      · replace hf := if_t hf c13
        replace hf := bs hf; obtain ⟨a14, ha14, hf⟩ := hf
        replace hf := bs hf; obtain ⟨r15, hk_16, hf⟩ := hf
        rcases (Decidable.em (r15 = (ii 0))) with c17 | c17
        · replace hf := if_t hf c17
          have hm := zX20_clause_b53 hf
          exact ⟨by omega, by omega⟩
        · replace hf := if_f hf c17
          have hm := zX20_clause_b53 hf
          exact ⟨by omega, by omega⟩
      · replace hf := if_f hf c13
        have hm := zX20_clause_b53 hf
        exact ⟨by omega, by omega⟩
    · replace hf := if_f hf c9
      have hm := zX20_clause_b53 hf
      exact ⟨by omega, by omega⟩
  · replace hf := if_f hf c5
    have hm := zX20_clause_b53 hf
    exact ⟨by omega, by omega⟩
set_option maxHeartbeats 400000 in
set_option maxRecDepth 100000 in
theorem wX20_clause_e {nf : Nat} {kc ks : Nat} {cells slots : Nat} {p : Program} {l : Launch} {e : Env} {s : State} {m : MethodId} {args : Array Value} {below : List Frame} {meth : Method} {c : Code} {D : va_G} {dA : Nat → ClassId} {s0 : Nat} {T : xT} {N : xT} {Z : Nat} {S : Nat} {I : xI} {L : xL} {R : xR} {H : Heap} {locs : List Loc} {ls : Array Slot} {x0 : Nat} {ro : (Nat ⊕ Unit)} {To : xT} {No : xT} {Zo : Nat} {So : Nat} {Io : xI} {Ro : xR} (X : Cx D dA s0 p m c cX20_clause 3 s args RX20 meth) (hr : meth.sig.returnType = none) (htE : c.exceptionTable.toList = []) (hf : fX20_clause nf (sv dA) T N Z S I L R x0 = some (ro, To, No, Zo, So, Io, Ro)) (V : Iv D dA s0 s T N Z I L R H locs) (hl : lv_has ls 3 [(0, .ref x0)]) (hB : cells + (Zo - Z) ≤ kc ∧ slots + (So - S) ≤ ks) : W p l e { frames := 1489, cells := kc, slots := ks, locals := 31894 } s m args below meth c H locs cells slots (vx_MQ below (yQ D dA s0 (rV ro) To No Zo Io L Ro) (yX D dA s0 (rV ro) To No Zo Io L Ro) args s kc ks (fun q => s0 ≤ q)) (F0 m 0 ls []) := by
  have hx := X.1.1
  have hb := X.1.2.1
  unfold fX20_clause at hf
  refine lv_aload_n (pc := 0) hx hb dX20_clause_0 rfl (lv_at hl 0 rfl) ?_
  replace hf := bs hf; obtain ⟨a1, ha1, hf⟩ := hf
  refine x_ldcS (pc := 1) X 35 rfl ha1 dX20_clause_1 ?_
  replace hf := tg_s hf; obtain ⟨ht4, hf⟩ := hf
  replace hf := bs hf; obtain ⟨r2, hk_3, hf⟩ := hf
  refine x_callU (pc := 3) (As := [.ref a1]) (rest := []) X V (mX6_is_rX20 l D dA s0 hk_3) okX20 ht4 q1131 q1132 q1133 q799 q133 q800 rfl hsX6_is_rX20 ⟨Nat.le_of_ble_eq_true rfl, Nat.le_of_ble_eq_true rfl⟩ rfl hl.1 rfl (Nat.le_of_ble_eq_true rfl) dX20_clause_3 ⟨by show cells ≤ kc; omega, by show slots ≤ ks; omega⟩ (fun H locs V => W.eq (g2 := F0 m 6 ls [.int r2]) rfl ?_)
  refine lv_if_eq (pc := 6) (tgt := 13) hx hb dX20_clause_6 (by decide) (fun c5 => ?_) (fun c5 => ?_)
  · replace hf := if_t hf c5
    refine lv_aload_n (pc := 13) hx hb dX20_clause_13 rfl (lv_at hl 0 rfl) ?_
    replace hf := bs hf; obtain ⟨a6, ha6, hf⟩ := hf
    refine x_ldcS (pc := 14) X 36 rfl ha6 dX20_clause_14 ?_
    replace hf := bs hf; obtain ⟨r7, hk_8, hf⟩ := hf
    refine x_callU (pc := 16) (As := [.ref a6]) (rest := []) X V (mX6_is_rX20 l D dA s0 hk_8) okX20 ht4 q1131 q1132 q1133 q799 q133 q800 rfl hsX6_is_rX20 ⟨Nat.le_of_ble_eq_true rfl, Nat.le_of_ble_eq_true rfl⟩ rfl hl.1 rfl (Nat.le_of_ble_eq_true rfl) dX20_clause_16 ⟨by show cells ≤ kc; omega, by show slots ≤ ks; omega⟩ (fun H locs V => W.eq (g2 := F0 m 19 ls [.int r7]) rfl ?_)
    refine lv_if_eq (pc := 19) (tgt := 26) hx hb dX20_clause_19 (by decide) (fun c9 => ?_) (fun c9 => ?_)
    · replace hf := if_t hf c9
      refine lv_aload_n (pc := 26) hx hb dX20_clause_26 rfl (lv_at hl 0 rfl) ?_
      replace hf := bs hf; obtain ⟨a10, ha10, hf⟩ := hf
      refine x_ldcS (pc := 27) X 37 rfl ha10 dX20_clause_27 ?_
      replace hf := bs hf; obtain ⟨r11, hk_12, hf⟩ := hf
      refine x_callU (pc := 29) (As := [.ref a10]) (rest := []) X V (mX6_is_rX20 l D dA s0 hk_12) okX20 ht4 q1131 q1132 q1133 q799 q133 q800 rfl hsX6_is_rX20 ⟨Nat.le_of_ble_eq_true rfl, Nat.le_of_ble_eq_true rfl⟩ rfl hl.1 rfl (Nat.le_of_ble_eq_true rfl) dX20_clause_29 ⟨by show cells ≤ kc; omega, by show slots ≤ ks; omega⟩ (fun H locs V => W.eq (g2 := F0 m 32 ls [.int r11]) rfl ?_)
      refine lv_if_eq (pc := 32) (tgt := 39) hx hb dX20_clause_32 (by decide) (fun c13 => ?_) (fun c13 => ?_)
      · replace hf := if_t hf c13
        refine lv_aload_n (pc := 39) hx hb dX20_clause_39 rfl (lv_at hl 0 rfl) ?_
        replace hf := bs hf; obtain ⟨a14, ha14, hf⟩ := hf
        refine x_ldcS (pc := 40) X 38 rfl ha14 dX20_clause_40 ?_
        replace hf := bs hf; obtain ⟨r15, hk_16, hf⟩ := hf
        refine x_callU (pc := 42) (As := [.ref a14]) (rest := []) X V (mX6_is_rX20 l D dA s0 hk_16) okX20 ht4 q1131 q1132 q1133 q799 q133 q800 rfl hsX6_is_rX20 ⟨Nat.le_of_ble_eq_true rfl, Nat.le_of_ble_eq_true rfl⟩ rfl hl.1 rfl (Nat.le_of_ble_eq_true rfl) dX20_clause_42 ⟨by show cells ≤ kc; omega, by show slots ≤ ks; omega⟩ (fun H locs V => W.eq (g2 := F0 m 45 ls [.int r15]) rfl ?_)
        refine lv_if_eq (pc := 45) (tgt := 52) hx hb dX20_clause_45 (by decide) (fun c17 => ?_) (fun c17 => ?_)
        · replace hf := if_t hf c17
          refine lv_iconst (pc := 52) (v := (-1 : Int32)) hx hb dX20_clause_52 (by decide) ?_
          exact wX20_clause_b53 X hr htE hf V (lv_sub hl [0] rfl) ⟨by omega, by omega⟩
        · replace hf := if_f hf c17
          refine lv_iconst (pc := 48) (v := (ii 3)) hx hb dX20_clause_48 (by decide) ?_
          refine lv_goto (pc := 49) (tgt := 53) hx hb dX20_clause_49 (by decide) ?_
          exact wX20_clause_b53 X hr htE hf V (lv_sub hl [0] rfl) ⟨by omega, by omega⟩
      · replace hf := if_f hf c13
        refine lv_iconst (pc := 35) (v := (ii 2)) hx hb dX20_clause_35 (by decide) ?_
        refine lv_goto (pc := 36) (tgt := 53) hx hb dX20_clause_36 (by decide) ?_
        exact wX20_clause_b53 X hr htE hf V (lv_sub hl [0] rfl) ⟨by omega, by omega⟩
    · replace hf := if_f hf c9
      refine lv_iconst (pc := 22) (v := (ii 1)) hx hb dX20_clause_22 (by decide) ?_
      refine lv_goto (pc := 23) (tgt := 53) hx hb dX20_clause_23 (by decide) ?_
      exact wX20_clause_b53 X hr htE hf V (lv_sub hl [0] rfl) ⟨by omega, by omega⟩
  · replace hf := if_f hf c5
    refine lv_iconst (pc := 9) (v := (ii 0)) hx hb dX20_clause_9 (by decide) ?_
    refine lv_goto (pc := 10) (tgt := 53) hx hb dX20_clause_10 (by decide) ?_
    exact wX20_clause_b53 X hr htE hf V (lv_sub hl [0] rfl) ⟨by omega, by omega⟩
theorem mX20_clause {nf : Nat} (l : Launch) (D : va_G) (dA : Nat → ClassId) (s0 : Nat) {kc ks : Nat} {T : xT} {N : xT} {Z : Nat} {S : Nat} {I : xI} {L : xL} {R : xR} {x0 : Nat} {ro : (Nat ⊕ Unit)} {To : xT} {No : xT} {Zo : Nat} {So : Nat} {Io : xI} {Ro : xR} (hZ : Zo - Z ≤ kc) (hS : So - S ≤ ks) (hf : fX20_clause nf (sv dA) T N Z S I L R x0 = some (ro, To, No, Zo, So, Io, Ro)) : YMet l D dA s0 yX20_clause (ws_ yX20_clause cX20_clause 3 (none)) (1489) (31894) [.ref x0] T N Z I L R (rV ro) To No Zo Io L Ro kc ks :=
  y_start (own := RX20) rfl (by decide) (Nat.le_of_ble_eq_true rfl) (lv := [(0, .ref x0)]) rfl (fun p e s m below meth c ls X hr htE V hl => wX20_clause_e X hr htE hf V hl ⟨by omega, by omega⟩)
set_option maxHeartbeats 400000 in
set_option maxRecDepth 100000 in
theorem wX6_init_rX20_e {p : Program} {l : Launch} {e : Env} {s : State} {m : MethodId} {args : Array Value} {below : List Frame} {meth : Method} {c : Code} {D : va_G} {dA : Nat → ClassId} {s0 : Nat} {T : xT} {N : xT} {Z : Nat} {I : xI} {L : xL} {R : xR} {H : Heap} {locs : List Loc} {ls : Array Slot} {x0 : Nat} {x1 : Nat} {x2 : Int32} {Io : xI} {Ro : xR} (X : Cx D dA s0 p m c cX6_init 3 s args RX6 meth) (hr : meth.sig.returnType = none) (hini : meth.name = "<init>") (hf : fX6_init_rX20 T I R x0 x1 x2 = some (Io, Ro)) (V : Iv D dA s0 s T N Z I L R H locs) (hl : lv_has ls 3 [(0, .ref x0), (1, .ref x1), (2, .int x2)]) : W p l e { frames := 1, cells := 0, slots := 0, locals := 20 } s m args below meth c H locs 0 0 (MQ below (xQ D dA s0 none T N Z Io L Ro) args s 0 0 (fun q => s0 ≤ q)) (F0 m 0 ls []) := by
  have hx := X.1.1
  have hb := X.1.2.1
  unfold fX6_init_rX20 at hf
  refine lv_aload_n (pc := 0) hx hb dX6_init_0 rfl (lv_at hl 0 rfl) ?_
  refine x_objInit (pc := 1) X q736 q161 q162 hl.1 (Nat.le_of_ble_eq_true rfl) (Nat.le_of_ble_eq_true rfl) dX6_init_1 ?_
  refine lv_aload_n (pc := 4) hx hb dX6_init_4 rfl (lv_at hl 0 rfl) ?_
  refine lv_aload_n (pc := 5) hx hb dX6_init_5 rfl (lv_at hl 1 rfl) ?_
  replace hf := tg_s hf; obtain ⟨ht1, hf⟩ := hf
  replace hf := nm_s hf; obtain ⟨R2, hR2, hf⟩ := hf
  refine x_putr (pc := 6) X V okX20 (by decide) ht1 0 (by decide) q741 (Or.inr ⟨rfl, hini, rfl⟩) hR2 (fun _ _ _ => rfl) (v := .ref x1) rfl rfl rfl dX6_init_6 (fun H locs V => ?_)
  refine lv_aload_n (pc := 9) hx hb dX6_init_9 rfl (lv_at hl 0 rfl) ?_
  refine lv_iload_n (pc := 10) hx hb dX6_init_10 rfl (lv_at hl 2 rfl) ?_
  replace hf := nm_s hf; obtain ⟨I3, hI3, hf⟩ := hf
  refine x_puti (pc := 11) X V okX20 (by decide) ht1 1 (by decide) q742 (Or.inr ⟨rfl, hini, rfl⟩) hI3 (fun _ _ _ => rfl) rfl rfl dX6_init_11 (fun H locs V => ?_)
  cases hf
  exact x_vret (pc := 14) X V hr dX6_init_14
theorem mX6_init_rX20 (l : Launch) (D : va_G) (dA : Nat → ClassId) (s0 : Nat) {T : xT} {N : xT} {Z : Nat} {I : xI} {L : xL} {R : xR} {x0 : Nat} {x1 : Nat} {x2 : Int32} {Io : xI} {Ro : xR} (hf : fX6_init_rX20 T I R x0 x1 x2 = some (Io, Ro)) : XMet l D dA s0 yX6_init (ws_ yX6_init cX6_init 3 (none)) (1) (20) [.ref x0, .ref x1, .int x2] T N Z I L R none T N Z Io L Ro 0 0 :=
  x_start (own := RX6) rfl (by decide) (Nat.le_of_ble_eq_true rfl) (lv := [(0, .ref x0), (1, .ref x1), (2, .int x2)]) rfl (fun p e s m below meth c ls X hr hini V hl => wX6_init_rX20_e X hr hini hf V hl)
set_option maxHeartbeats 400000 in
set_option maxRecDepth 100000 in
theorem zX20_init_b15 {T : xT} {N : xT} {Z : Nat} {S : Nat} {I : xI} {R : xR}  {z0 : Nat} {z1 : Nat} {To : xT} {No : xT} {Zo : Nat} {So : Nat} {Io : xI} {Ro : xR}  (hf : fX20_init_b15 T N Z S I R z0 z1 = some (To, No, Zo, So, Io, Ro)) : Z ≤ Zo ∧ S ≤ So := by
  unfold fX20_init_b15 at hf
  replace hf := tg_s hf; obtain ⟨ht1, hf⟩ := hf
  replace hf := nm_s hf; obtain ⟨R2, hR2, hf⟩ := hf
  cases hf
  exact ⟨Nat.le_refl _, Nat.le_refl _⟩
set_option maxHeartbeats 400000 in
set_option maxRecDepth 100000 in
theorem wX20_init_b15 {kc ks : Nat} {cells slots : Nat} {p : Program} {l : Launch} {e : Env} {s : State} {m : MethodId} {args : Array Value} {below : List Frame} {meth : Method} {c : Code} {D : va_G} {dA : Nat → ClassId} {s0 : Nat} {T : xT} {N : xT} {Z : Nat} {S : Nat} {I : xI} {L : xL} {R : xR} {H : Heap} {locs : List Loc} {ls : Array Slot}  {z0 : Nat} {z1 : Nat} {To : xT} {No : xT} {Zo : Nat} {So : Nat} {Io : xI} {Ro : xR} (X : Cx D dA s0 p m c cX20_init 3 s args RX20 meth) (hr : meth.sig.returnType = none) (hini : meth.name = "<init>")   (hf : fX20_init_b15 T N Z S I R z0 z1 = some (To, No, Zo, So, Io, Ro)) (V : Iv D dA s0 s T N Z I L R H locs) (hl : lv_has ls 3 []) (hB : cells + (Zo - Z) ≤ kc ∧ slots + (So - S) ≤ ks) : W p l e { frames := 4, cells := kc, slots := ks, locals := 81 } s m args below meth c H locs cells slots (MQ below (xQ D dA s0 none To No Zo Io L Ro) args s kc ks (fun q => s0 ≤ q)) (F0 m 15 ls [.ref z1, .ref z0]) := by
  have hx := X.1.1
  have hb := X.1.2.1
  unfold fX20_init_b15 at hf
  replace hf := tg_s hf; obtain ⟨ht1, hf⟩ := hf
  replace hf := nm_s hf; obtain ⟨R2, hR2, hf⟩ := hf
  refine x_putr (pc := 15) X V okX20 (by decide) ht1 7 (by decide) q1430 (Or.inr ⟨rfl, hini, rfl⟩) hR2 (fun _ _ _ => rfl) (v := .ref z1) rfl rfl rfl dX20_init_15 (fun H locs V => ?_)
  cases hf
  exact x_vretW (pc := 18) X V hr (by omega) (by omega) dX20_init_18
set_option maxHeartbeats 400000 in
set_option maxRecDepth 100000 in
theorem zX20_init_b10 {T : xT} {N : xT} {Z : Nat} {S : Nat} {I : xI} {R : xR}  {z0 : Nat} {z1 : Nat} {To : xT} {No : xT} {Zo : Nat} {So : Nat} {Io : xI} {Ro : xR}  (hf : fX20_init_b10 T N Z S I R z0 z1 = some (To, No, Zo, So, Io, Ro)) : Z ≤ Zo ∧ S ≤ So := by
  unfold fX20_init_b10 at hf
  replace hf := b6s hf; obtain ⟨T1, N2, Z3, S4, I5, R6, hk_7, hf⟩ := hf
  have hm_hk_7 := zJ2_init hk_7
  have hm := zX20_init_b15 hf
  exact ⟨by omega, by omega⟩
set_option maxHeartbeats 400000 in
set_option maxRecDepth 100000 in
theorem wX20_init_b10 {kc ks : Nat} {cells slots : Nat} {p : Program} {l : Launch} {e : Env} {s : State} {m : MethodId} {args : Array Value} {below : List Frame} {meth : Method} {c : Code} {D : va_G} {dA : Nat → ClassId} {s0 : Nat} {T : xT} {N : xT} {Z : Nat} {S : Nat} {I : xI} {L : xL} {R : xR} {H : Heap} {locs : List Loc} {ls : Array Slot}  {z0 : Nat} {z1 : Nat} {To : xT} {No : xT} {Zo : Nat} {So : Nat} {Io : xI} {Ro : xR} (X : Cx D dA s0 p m c cX20_init 3 s args RX20 meth) (hr : meth.sig.returnType = none) (hini : meth.name = "<init>")   (hf : fX20_init_b10 T N Z S I R z0 z1 = some (To, No, Zo, So, Io, Ro)) (V : Iv D dA s0 s T N Z I L R H locs) (hl : lv_has ls 3 []) (hB : cells + (Zo - Z) ≤ kc ∧ slots + (So - S) ≤ ks) : W p l e { frames := 4, cells := kc, slots := ks, locals := 81 } s m args below meth c H locs cells slots (MQ below (xQ D dA s0 none To No Zo Io L Ro) args s kc ks (fun q => s0 ≤ q)) (F0 m 10 ls [.ref z1, .ref z0]) := by
  have hx := X.1.1
  have hb := X.1.2.1
  unfold fX20_init_b10 at hf
  refine lv_dup (pc := 10) hx hb dX20_init_10 rfl ?_
  refine lv_iconst (pc := 11) (v := (ii 2)) hx hb dX20_init_11 (by decide) ?_
  replace hf := b6s hf; obtain ⟨T1, N2, Z3, S4, I5, R6, hk_7, hf⟩ := hf
  have hm_hk_7 := zJ2_init hk_7
  have hm := zX20_init_b15 hf
  refine x_callI (pc := 12) (As := [.int (ii 2)]) (rest := [.ref z1, .ref z0]) X V (mJ2_init l D dA s0 (kc := Z3 - Z) (ks := S4 - S) (Nat.le_refl _) (Nat.le_refl _) hk_7) q1429 q196 q124 q197 rfl hsJ2_init ⟨Nat.le_of_ble_eq_true rfl, Nat.le_of_ble_eq_true rfl⟩ rfl hl.1 rfl (Nat.le_of_ble_eq_true rfl) dX20_init_12 ⟨by show _ ≤ kc; omega, by show _ ≤ ks; omega⟩ (fun H locs V => W.eq (g2 := F0 m 15 ls [.ref z1, .ref z0]) rfl ?_)
  exact wX20_init_b15 X hr hini hf V (lv_sub hl [] rfl) ⟨by omega, by omega⟩
set_option maxHeartbeats 400000 in
set_option maxRecDepth 100000 in
theorem zX20_init {T : xT} {N : xT} {Z : Nat} {S : Nat} {I : xI} {R : xR} {x0 : Nat} {x1 : Nat} {x2 : Int32} {To : xT} {No : xT} {Zo : Nat} {So : Nat} {Io : xI} {Ro : xR} (hf : fX20_init T N Z S I R x0 x1 x2 = some (To, No, Zo, So, Io, Ro)) : Z ≤ Zo ∧ S ≤ So := by
  unfold fX20_init at hf
  replace hf := b2s hf; obtain ⟨I1, R2, hk_3, hf⟩ := hf
  replace hf := nm_s hf; obtain ⟨T4, hT4, hf⟩ := hf
  replace hf := nm_s hf; obtain ⟨Z5, hZ5, hf⟩ := hf
  replace hf := nm_s hf; obtain ⟨S6, hS6, hf⟩ := hf
  have hm := zX20_init_b10 hf
  exact ⟨by omega, by omega⟩
set_option maxHeartbeats 400000 in
set_option maxRecDepth 100000 in
theorem wX20_init_e {kc ks : Nat} {cells slots : Nat} {p : Program} {l : Launch} {e : Env} {s : State} {m : MethodId} {args : Array Value} {below : List Frame} {meth : Method} {c : Code} {D : va_G} {dA : Nat → ClassId} {s0 : Nat} {T : xT} {N : xT} {Z : Nat} {S : Nat} {I : xI} {L : xL} {R : xR} {H : Heap} {locs : List Loc} {ls : Array Slot} {x0 : Nat} {x1 : Nat} {x2 : Int32} {To : xT} {No : xT} {Zo : Nat} {So : Nat} {Io : xI} {Ro : xR} (X : Cx D dA s0 p m c cX20_init 3 s args RX20 meth) (hr : meth.sig.returnType = none) (hini : meth.name = "<init>") (hf : fX20_init T N Z S I R x0 x1 x2 = some (To, No, Zo, So, Io, Ro)) (V : Iv D dA s0 s T N Z I L R H locs) (hl : lv_has ls 3 [(0, .ref x0), (1, .ref x1), (2, .int x2)]) (hB : cells + (Zo - Z) ≤ kc ∧ slots + (So - S) ≤ ks) : W p l e { frames := 4, cells := kc, slots := ks, locals := 81 } s m args below meth c H locs cells slots (MQ below (xQ D dA s0 none To No Zo Io L Ro) args s kc ks (fun q => s0 ≤ q)) (F0 m 0 ls []) := by
  have hx := X.1.1
  have hb := X.1.2.1
  unfold fX20_init at hf
  refine lv_aload_n (pc := 0) hx hb dX20_init_0 rfl (lv_at hl 0 rfl) ?_
  refine lv_aload_n (pc := 1) hx hb dX20_init_1 rfl (lv_at hl 1 rfl) ?_
  refine lv_iload_n (pc := 2) hx hb dX20_init_2 rfl (lv_at hl 2 rfl) ?_
  replace hf := b2s hf; obtain ⟨I1, R2, hk_3, hf⟩ := hf
  refine x_callI0 (pc := 3) (As := [.ref x1, .int x2]) (rest := []) X V (mX6_init_rX20 l D dA s0 hk_3) q1427 q734 q133 q735 rfl hsX6_init_rX20 ⟨Nat.le_of_ble_eq_true rfl, Nat.le_of_ble_eq_true rfl⟩ rfl hl.1 rfl (Nat.le_of_ble_eq_true rfl) dX20_init_3 ⟨by show cells ≤ kc; omega, by show slots ≤ ks; omega⟩ (fun H locs V => W.eq (g2 := F0 m 6 ls []) rfl ?_)
  refine lv_aload_n (pc := 6) hx hb dX20_init_6 rfl (lv_at hl 0 rfl) ?_
  replace hf := nm_s hf; obtain ⟨T4, hT4, hf⟩ := hf
  replace hf := nm_s hf; obtain ⟨Z5, hZ5, hf⟩ := hf
  replace hf := nm_s hf; obtain ⟨S6, hS6, hf⟩ := hf
  have hm := zX20_init_b10 hf
  refine x_new (pc := 7) X V okJ2 hT4 hZ5 q1428 q194 q124 (by show _ ≤ kc; omega) (by show _ ≤ ks; omega) dX20_init_7 (fun H V => ?_)
  exact wX20_init_b10 X hr hini hf V (lv_sub hl [] rfl) ⟨by omega, by omega⟩
theorem mX20_init (l : Launch) (D : va_G) (dA : Nat → ClassId) (s0 : Nat) {kc ks : Nat} {T : xT} {N : xT} {Z : Nat} {S : Nat} {I : xI} {L : xL} {R : xR} {x0 : Nat} {x1 : Nat} {x2 : Int32} {To : xT} {No : xT} {Zo : Nat} {So : Nat} {Io : xI} {Ro : xR} (hZ : Zo - Z ≤ kc) (hS : So - S ≤ ks) (hf : fX20_init T N Z S I R x0 x1 x2 = some (To, No, Zo, So, Io, Ro)) : XMet l D dA s0 yX20_init (ws_ yX20_init cX20_init 3 (none)) (4) (81) [.ref x0, .ref x1, .int x2] T N Z I L R none To No Zo Io L Ro kc ks :=
  x_start (own := RX20) rfl (by decide) (Nat.le_of_ble_eq_true rfl) (lv := [(0, .ref x0), (1, .ref x1), (2, .int x2)]) rfl (fun p e s m below meth c ls X hr hini V hl => wX20_init_e X hr hini hf V hl ⟨by omega, by omega⟩)
