set_option maxHeartbeats 400000 in
set_option maxRecDepth 100000 in
theorem zX2_init_b23 {T : xT} {N : xT} {Z : Nat} {S : Nat} {R : xR}  {z0 : Nat} {z1 : Nat} {To : xT} {No : xT} {Zo : Nat} {So : Nat} {Ro : xR}  (hf : fX2_init_b23 T N Z S R z0 z1 = some (To, No, Zo, So, Ro)) : Z ≤ Zo ∧ S ≤ So := by
  unfold fX2_init_b23 at hf
  replace hf := tg_s hf; obtain ⟨ht1, hf⟩ := hf
  replace hf := nm_s hf; obtain ⟨R2, hR2, hf⟩ := hf
  cases hf
  exact ⟨Nat.le_refl _, Nat.le_refl _⟩
set_option maxHeartbeats 400000 in
set_option maxRecDepth 100000 in
theorem wX2_init_b23 {kc ks : Nat} {cells slots : Nat} {p : Program} {l : Launch} {e : Env} {s : State} {m : MethodId} {args : Array Value} {below : List Frame} {meth : Method} {c : Code} {D : va_G} {dA : Nat → ClassId} {s0 : Nat} {T : xT} {N : xT} {Z : Nat} {S : Nat} {I : xI} {L : xL} {R : xR} {H : Heap} {locs : List Loc} {ls : Array Slot}  {z0 : Nat} {z1 : Nat} {To : xT} {No : xT} {Zo : Nat} {So : Nat} {Ro : xR} (X : Cx D dA s0 p m c cX2_init 1 s args RX2 meth) (hr : meth.sig.returnType = none) (hini : meth.name = "<init>")   (hf : fX2_init_b23 T N Z S R z0 z1 = some (To, No, Zo, So, Ro)) (V : Iv D dA s0 s T N Z I L R H locs) (hl : lv_has ls 1 []) (hB : cells + (Zo - Z) ≤ kc ∧ slots + (So - S) ≤ ks) : W p l e { frames := 1, cells := kc, slots := ks, locals := 20 } s m args below meth c H locs cells slots (MQ below (xQ D dA s0 none To No Zo I L Ro) args s kc ks (fun q => s0 ≤ q)) (F0 m 23 ls [.ref z1, .ref z0]) := by
  have hx := X.1.1
  have hb := X.1.2.1
  unfold fX2_init_b23 at hf
  replace hf := tg_s hf; obtain ⟨ht1, hf⟩ := hf
  replace hf := nm_s hf; obtain ⟨R2, hR2, hf⟩ := hf
  refine x_putr (pc := 23) X V okX2 (by decide) ht1 2 (by decide) q179 (Or.inr ⟨rfl, hini, rfl⟩) hR2 (fun _ _ _ => rfl) (v := .ref z1) rfl rfl rfl dX2_init_23 (fun H locs V => ?_)
  cases hf
  exact x_vretW (pc := 26) X V hr (by omega) (by omega) dX2_init_26
set_option maxHeartbeats 400000 in
set_option maxRecDepth 100000 in
theorem zX2_init_b15 {T : xT} {N : xT} {Z : Nat} {S : Nat} {R : xR}  {x0 : Nat} {z0 : Nat} {z1 : Nat} {To : xT} {No : xT} {Zo : Nat} {So : Nat} {Ro : xR}  (hf : fX2_init_b15 T N Z S R x0 z0 z1 = some (To, No, Zo, So, Ro)) : Z ≤ Zo ∧ S ≤ So := by
  unfold fX2_init_b15 at hf
  replace hf := tg_s hf; obtain ⟨ht1, hf⟩ := hf
  replace hf := nm_s hf; obtain ⟨R2, hR2, hf⟩ := hf
  replace hf := nm_s hf; obtain ⟨T3, hT3, hf⟩ := hf
  replace hf := nm_s hf; obtain ⟨N4, hN4, hf⟩ := hf
  replace hf := nm_s hf; obtain ⟨Z5, hZ5, hf⟩ := hf
  replace hf := nm_s hf; obtain ⟨S6, hS6, hf⟩ := hf
  have hm := zX2_init_b23 hf
  exact ⟨by omega, by omega⟩
set_option maxHeartbeats 400000 in
set_option maxRecDepth 100000 in
theorem wX2_init_b15 {kc ks : Nat} {cells slots : Nat} {p : Program} {l : Launch} {e : Env} {s : State} {m : MethodId} {args : Array Value} {below : List Frame} {meth : Method} {c : Code} {D : va_G} {dA : Nat → ClassId} {s0 : Nat} {T : xT} {N : xT} {Z : Nat} {S : Nat} {I : xI} {L : xL} {R : xR} {H : Heap} {locs : List Loc} {ls : Array Slot}  {x0 : Nat} {z0 : Nat} {z1 : Nat} {To : xT} {No : xT} {Zo : Nat} {So : Nat} {Ro : xR} (X : Cx D dA s0 p m c cX2_init 1 s args RX2 meth) (hr : meth.sig.returnType = none) (hini : meth.name = "<init>")   (hf : fX2_init_b15 T N Z S R x0 z0 z1 = some (To, No, Zo, So, Ro)) (V : Iv D dA s0 s T N Z I L R H locs) (hl : lv_has ls 1 [(0, .ref x0)]) (hB : cells + (Zo - Z) ≤ kc ∧ slots + (So - S) ≤ ks) : W p l e { frames := 1, cells := kc, slots := ks, locals := 20 } s m args below meth c H locs cells slots (MQ below (xQ D dA s0 none To No Zo I L Ro) args s kc ks (fun q => s0 ≤ q)) (F0 m 15 ls [.ref z1, .ref z0]) := by
  have hx := X.1.1
  have hb := X.1.2.1
  unfold fX2_init_b15 at hf
  replace hf := tg_s hf; obtain ⟨ht1, hf⟩ := hf
  replace hf := nm_s hf; obtain ⟨R2, hR2, hf⟩ := hf
  refine x_putr (pc := 15) X V okX2 (by decide) ht1 1 (by decide) q177 (Or.inr ⟨rfl, hini, rfl⟩) hR2 (fun _ _ _ => rfl) (v := .ref z1) rfl rfl rfl dX2_init_15 (fun H locs V => ?_)
  refine lv_aload_n (pc := 18) hx hb dX2_init_18 rfl (lv_at hl 0 rfl) ?_
  refine lv_bipush (pc := 19) (v := (ii 10)) hx hb dX2_init_19 (by decide) ?_
  replace hf := nm_s hf; obtain ⟨T3, hT3, hf⟩ := hf
  replace hf := nm_s hf; obtain ⟨N4, hN4, hf⟩ := hf
  replace hf := nm_s hf; obtain ⟨Z5, hZ5, hf⟩ := hf
  replace hf := nm_s hf; obtain ⟨S6, hS6, hf⟩ := hf
  have hm := zX2_init_b23 hf
  refine x_newa (pc := 21) X V (atype := .int) (k := 0) rfl (by decide) q192 (by decide) hT3 hN4 hZ5 (by show _ ≤ kc; omega) (by show _ ≤ ks; omega) dX2_init_21 (fun H V => ?_)
  exact wX2_init_b23 X hr hini hf V (lv_sub hl [] rfl) ⟨by omega, by omega⟩
set_option maxHeartbeats 400000 in
set_option maxRecDepth 100000 in
theorem zX2_init_b8 {T : xT} {N : xT} {Z : Nat} {S : Nat} {R : xR}  {x0 : Nat} {z0 : Nat} {z1 : Nat} {To : xT} {No : xT} {Zo : Nat} {So : Nat} {Ro : xR}  (hf : fX2_init_b8 T N Z S R x0 z0 z1 = some (To, No, Zo, So, Ro)) : Z ≤ Zo ∧ S ≤ So := by
  unfold fX2_init_b8 at hf
  replace hf := tg_s hf; obtain ⟨ht1, hf⟩ := hf
  replace hf := nm_s hf; obtain ⟨R2, hR2, hf⟩ := hf
  replace hf := nm_s hf; obtain ⟨T3, hT3, hf⟩ := hf
  replace hf := nm_s hf; obtain ⟨N4, hN4, hf⟩ := hf
  replace hf := nm_s hf; obtain ⟨Z5, hZ5, hf⟩ := hf
  replace hf := nm_s hf; obtain ⟨S6, hS6, hf⟩ := hf
  have hm := zX2_init_b15 hf
  exact ⟨by omega, by omega⟩
set_option maxHeartbeats 400000 in
set_option maxRecDepth 100000 in
theorem wX2_init_b8 {kc ks : Nat} {cells slots : Nat} {p : Program} {l : Launch} {e : Env} {s : State} {m : MethodId} {args : Array Value} {below : List Frame} {meth : Method} {c : Code} {D : va_G} {dA : Nat → ClassId} {s0 : Nat} {T : xT} {N : xT} {Z : Nat} {S : Nat} {I : xI} {L : xL} {R : xR} {H : Heap} {locs : List Loc} {ls : Array Slot}  {x0 : Nat} {z0 : Nat} {z1 : Nat} {To : xT} {No : xT} {Zo : Nat} {So : Nat} {Ro : xR} (X : Cx D dA s0 p m c cX2_init 1 s args RX2 meth) (hr : meth.sig.returnType = none) (hini : meth.name = "<init>")   (hf : fX2_init_b8 T N Z S R x0 z0 z1 = some (To, No, Zo, So, Ro)) (V : Iv D dA s0 s T N Z I L R H locs) (hl : lv_has ls 1 [(0, .ref x0)]) (hB : cells + (Zo - Z) ≤ kc ∧ slots + (So - S) ≤ ks) : W p l e { frames := 1, cells := kc, slots := ks, locals := 20 } s m args below meth c H locs cells slots (MQ below (xQ D dA s0 none To No Zo I L Ro) args s kc ks (fun q => s0 ≤ q)) (F0 m 8 ls [.ref z1, .ref z0]) := by
  have hx := X.1.1
  have hb := X.1.2.1
  unfold fX2_init_b8 at hf
  replace hf := tg_s hf; obtain ⟨ht1, hf⟩ := hf
  replace hf := nm_s hf; obtain ⟨R2, hR2, hf⟩ := hf
  refine x_putr (pc := 8) X V okX2 (by decide) ht1 0 (by decide) q175 (Or.inr ⟨rfl, hini, rfl⟩) hR2 (fun _ _ _ => rfl) (v := .ref z1) rfl rfl rfl dX2_init_8 (fun H locs V => ?_)
  refine lv_aload_n (pc := 11) hx hb dX2_init_11 rfl (lv_at hl 0 rfl) ?_
  refine lv_iconst (pc := 12) (v := (ii 4)) hx hb dX2_init_12 (by decide) ?_
  replace hf := nm_s hf; obtain ⟨T3, hT3, hf⟩ := hf
  replace hf := nm_s hf; obtain ⟨N4, hN4, hf⟩ := hf
  replace hf := nm_s hf; obtain ⟨Z5, hZ5, hf⟩ := hf
  replace hf := nm_s hf; obtain ⟨S6, hS6, hf⟩ := hf
  have hm := zX2_init_b15 hf
  refine x_newa (pc := 13) X V (atype := .int) (k := 0) rfl (by decide) q192 (by decide) hT3 hN4 hZ5 (by show _ ≤ kc; omega) (by show _ ≤ ks; omega) dX2_init_13 (fun H V => ?_)
  exact wX2_init_b15 X hr hini hf V (lv_sub hl [0] rfl) ⟨by omega, by omega⟩
set_option maxHeartbeats 400000 in
set_option maxRecDepth 100000 in
theorem zX2_init {T : xT} {N : xT} {Z : Nat} {S : Nat} {R : xR} {x0 : Nat} {To : xT} {No : xT} {Zo : Nat} {So : Nat} {Ro : xR} (hf : fX2_init T N Z S R x0 = some (To, No, Zo, So, Ro)) : Z ≤ Zo ∧ S ≤ So := by
  unfold fX2_init at hf
  replace hf := nm_s hf; obtain ⟨T1, hT1, hf⟩ := hf
  replace hf := nm_s hf; obtain ⟨N2, hN2, hf⟩ := hf
  replace hf := nm_s hf; obtain ⟨Z3, hZ3, hf⟩ := hf
  replace hf := nm_s hf; obtain ⟨S4, hS4, hf⟩ := hf
  have hm := zX2_init_b8 hf
  exact ⟨by omega, by omega⟩
set_option maxHeartbeats 400000 in
set_option maxRecDepth 100000 in
theorem wX2_init_e {kc ks : Nat} {cells slots : Nat} {p : Program} {l : Launch} {e : Env} {s : State} {m : MethodId} {args : Array Value} {below : List Frame} {meth : Method} {c : Code} {D : va_G} {dA : Nat → ClassId} {s0 : Nat} {T : xT} {N : xT} {Z : Nat} {S : Nat} {I : xI} {L : xL} {R : xR} {H : Heap} {locs : List Loc} {ls : Array Slot} {x0 : Nat} {To : xT} {No : xT} {Zo : Nat} {So : Nat} {Ro : xR} (X : Cx D dA s0 p m c cX2_init 1 s args RX2 meth) (hr : meth.sig.returnType = none) (hini : meth.name = "<init>") (hf : fX2_init T N Z S R x0 = some (To, No, Zo, So, Ro)) (V : Iv D dA s0 s T N Z I L R H locs) (hl : lv_has ls 1 [(0, .ref x0)]) (hB : cells + (Zo - Z) ≤ kc ∧ slots + (So - S) ≤ ks) : W p l e { frames := 1, cells := kc, slots := ks, locals := 20 } s m args below meth c H locs cells slots (MQ below (xQ D dA s0 none To No Zo I L Ro) args s kc ks (fun q => s0 ≤ q)) (F0 m 0 ls []) := by
  have hx := X.1.1
  have hb := X.1.2.1
  unfold fX2_init at hf
  refine lv_aload_n (pc := 0) hx hb dX2_init_0 rfl (lv_at hl 0 rfl) ?_
  refine x_objInit (pc := 1) X q174 q161 q162 hl.1 (Nat.le_of_ble_eq_true rfl) (Nat.le_of_ble_eq_true rfl) dX2_init_1 ?_
  refine lv_aload_n (pc := 4) hx hb dX2_init_4 rfl (lv_at hl 0 rfl) ?_
  refine lv_iconst (pc := 5) (v := (ii 4)) hx hb dX2_init_5 (by decide) ?_
  replace hf := nm_s hf; obtain ⟨T1, hT1, hf⟩ := hf
  replace hf := nm_s hf; obtain ⟨N2, hN2, hf⟩ := hf
  replace hf := nm_s hf; obtain ⟨Z3, hZ3, hf⟩ := hf
  replace hf := nm_s hf; obtain ⟨S4, hS4, hf⟩ := hf
  have hm := zX2_init_b8 hf
  refine x_newa (pc := 6) X V (atype := .int) (k := 0) rfl (by decide) q192 (by decide) hT1 hN2 hZ3 (by show _ ≤ kc; omega) (by show _ ≤ ks; omega) dX2_init_6 (fun H V => ?_)
  exact wX2_init_b8 X hr hini hf V (lv_sub hl [0] rfl) ⟨by omega, by omega⟩
theorem mX2_init (l : Launch) (D : va_G) (dA : Nat → ClassId) (s0 : Nat) {kc ks : Nat} {T : xT} {N : xT} {Z : Nat} {S : Nat} {I : xI} {L : xL} {R : xR} {x0 : Nat} {To : xT} {No : xT} {Zo : Nat} {So : Nat} {Ro : xR} (hZ : Zo - Z ≤ kc) (hS : So - S ≤ ks) (hf : fX2_init T N Z S R x0 = some (To, No, Zo, So, Ro)) : XMet l D dA s0 yX2_init (ws_ yX2_init cX2_init 1 (none)) (1) (20) [.ref x0] T N Z I L R none To No Zo I L Ro kc ks :=
  x_start (own := RX2) rfl (by decide) (Nat.le_of_ble_eq_true rfl) (lv := [(0, .ref x0)]) rfl (fun p e s m below meth c ls X hr hini V hl => wX2_init_e X hr hini hf V hl ⟨by omega, by omega⟩)
set_option maxHeartbeats 400000 in
set_option maxRecDepth 100000 in
theorem wX2_rows_e {p : Program} {l : Launch} {e : Env} {s : State} {m : MethodId} {args : Array Value} {below : List Frame} {meth : Method} {c : Code} {D : va_G} {dA : Nat → ClassId} {s0 : Nat} {T : xT} {N : xT} {Z : Nat} {I : xI} {L : xL} {R : xR} {H : Heap} {locs : List Loc} {ls : Array Slot} {x0 : Nat} {x1 : Nat} {Io : xI} (X : Cx D dA s0 p m c cX2_rows 2 s args RX2 meth) (hr : meth.sig.returnType = none) (hf : fX2_rows T N I x0 x1 = some Io) (V : Iv D dA s0 s T N Z I L R H locs) (hl : lv_has ls 2 [(0, .ref x0), (1, .ref x1)]) : W p l e { frames := 1, cells := 0, slots := 0, locals := 60 } s m args below meth c H locs 0 0 (MQ below (xQ D dA s0 none T N Z Io L R) args s 0 0 (fun q => s0 ≤ q)) (F0 m 0 ls []) := by
  have hx := X.1.1
  have hb := X.1.2.1
  unfold fX2_rows at hf
  refine lv_aload_n (pc := 0) hx hb dX2_rows_0 rfl (lv_at hl 1 rfl) ?_
  refine lv_iconst (pc := 1) (v := (ii 0)) hx hb dX2_rows_1 (by decide) ?_
  refine lv_aload_n (pc := 2) hx hb dX2_rows_2 rfl (lv_at hl 0 rfl) ?_
  refine lv_iconst (pc := 3) (v := (ii 0)) hx hb dX2_rows_3 (by decide) ?_
  refine lv_aload_n (pc := 4) hx hb dX2_rows_4 rfl (lv_at hl 0 rfl) ?_
  replace hf := tg_s hf; obtain ⟨ht1, hf⟩ := hf
  refine x_alen (pc := 5) X V (k := 0) ht1 (by decide) dX2_rows_5 ?_
  replace hf := tg_s hf; obtain ⟨ht2, hf⟩ := hf
  replace hf := chk_s hf; obtain ⟨hq3, hf⟩ := hf
  replace hf := nm_s hf; obtain ⟨I4, hI4, hf⟩ := hf
  refine x_copyi (pc := 6) X V q467 q469 q468 q150 ht2 ht1 hq3 hI4 hl.1 (Nat.le_of_ble_eq_true rfl) (Nat.le_of_ble_eq_true rfl) dX2_rows_6 (fun H locs V => ?_)
  cases hf
  exact x_vret (pc := 9) X V hr dX2_rows_9
theorem mX2_rows (l : Launch) (D : va_G) (dA : Nat → ClassId) (s0 : Nat) {T : xT} {N : xT} {Z : Nat} {I : xI} {L : xL} {R : xR} {x0 : Nat} {x1 : Nat} {Io : xI} (hf : fX2_rows T N I x0 x1 = some Io) : XMet l D dA s0 yX2_rows (ws_ yX2_rows cX2_rows 2 (none)) (1) (60) [.ref x0, .ref x1] T N Z I L R none T N Z Io L R 0 0 :=
  x_start (own := RX2) rfl (by decide) (Nat.le_of_ble_eq_true rfl) (lv := [(0, .ref x0), (1, .ref x1)]) rfl (fun p e s m below meth c ls X hr hini V hl => wX2_rows_e X hr hf V hl)
set_option maxHeartbeats 400000 in
set_option maxRecDepth 100000 in
theorem wX2_takes_e {p : Program} {l : Launch} {e : Env} {s : State} {m : MethodId} {args : Array Value} {below : List Frame} {meth : Method} {c : Code} {D : va_G} {dA : Nat → ClassId} {s0 : Nat} {T : xT} {N : xT} {Z : Nat} {I : xI} {L : xL} {R : xR} {H : Heap} {locs : List Loc} {ls : Array Slot} {x0 : Nat} {x1 : Nat} {Io : xI} (X : Cx D dA s0 p m c cX2_takes 2 s args RX2 meth) (hr : meth.sig.returnType = none) (hf : fX2_takes T N I R x0 x1 = some Io) (V : Iv D dA s0 s T N Z I L R H locs) (hl : lv_has ls 2 [(0, .ref x0), (1, .ref x1)]) : W p l e { frames := 2, cells := 0, slots := 0, locals := 81 } s m args below meth c H locs 0 0 (MQ below (xQ D dA s0 none T N Z Io L R) args s 0 0 (fun q => s0 ≤ q)) (F0 m 0 ls []) := by
  have hx := X.1.1
  have hb := X.1.2.1
  unfold fX2_takes at hf
  refine lv_aload_n (pc := 0) hx hb dX2_takes_0 rfl (lv_at hl 0 rfl) ?_
  replace hf := tg_s hf; obtain ⟨ht1, hf⟩ := hf
  replace hf := bs hf; obtain ⟨a2, ha2, hf⟩ := hf
  refine x_get (pc := 1) X V okX2 ht1 0 (by decide) q175 (v := va_rf (R x0 0)) rfl dX2_takes_1 ?_
  refine x_topr ha2 ?_
  refine lv_aload_n (pc := 4) hx hb dX2_takes_4 rfl (lv_at hl 1 rfl) ?_
  replace hf := tg_s hf; obtain ⟨ht3, hf⟩ := hf
  replace hf := bs hf; obtain ⟨a4, ha4, hf⟩ := hf
  refine x_get (pc := 5) X V okX2 ht3 0 (by decide) q175 (v := va_rf (R x1 0)) rfl dX2_takes_5 ?_
  refine x_topr ha4 ?_
  replace hf := bs hf; obtain ⟨I5, hk_6, hf⟩ := hf
  refine x_callS0 (pc := 8) (As := [.ref a2, .ref a4]) (rest := []) X V (mX2_rows l D dA s0 hk_6) q464 q465 q121 q466 hsX2_rows ⟨Nat.le_of_ble_eq_true rfl, Nat.le_of_ble_eq_true rfl⟩ rfl hl.1 rfl (Nat.le_of_ble_eq_true rfl) dX2_takes_8 ⟨Nat.zero_le _, Nat.zero_le _⟩ (fun H locs V => W.eq (g2 := F0 m 11 ls []) rfl ?_)
  refine lv_aload_n (pc := 11) hx hb dX2_takes_11 rfl (lv_at hl 0 rfl) ?_
  replace hf := bs hf; obtain ⟨a7, ha7, hf⟩ := hf
  refine x_get (pc := 12) X V okX2 ht1 1 (by decide) q177 (v := va_rf (R x0 1)) rfl dX2_takes_12 ?_
  refine x_topr ha7 ?_
  refine lv_aload_n (pc := 15) hx hb dX2_takes_15 rfl (lv_at hl 1 rfl) ?_
  replace hf := bs hf; obtain ⟨a8, ha8, hf⟩ := hf
  refine x_get (pc := 16) X V okX2 ht3 1 (by decide) q177 (v := va_rf (R x1 1)) rfl dX2_takes_16 ?_
  refine x_topr ha8 ?_
  replace hf := bs hf; obtain ⟨I9, hk_10, hf⟩ := hf
  refine x_callS0 (pc := 19) (As := [.ref a7, .ref a8]) (rest := []) X V (mX2_rows l D dA s0 hk_10) q464 q465 q121 q466 hsX2_rows ⟨Nat.le_of_ble_eq_true rfl, Nat.le_of_ble_eq_true rfl⟩ rfl hl.1 rfl (Nat.le_of_ble_eq_true rfl) dX2_takes_19 ⟨Nat.zero_le _, Nat.zero_le _⟩ (fun H locs V => W.eq (g2 := F0 m 22 ls []) rfl ?_)
  refine lv_aload_n (pc := 22) hx hb dX2_takes_22 rfl (lv_at hl 0 rfl) ?_
  replace hf := bs hf; obtain ⟨a11, ha11, hf⟩ := hf
  refine x_get (pc := 23) X V okX2 ht1 2 (by decide) q179 (v := va_rf (R x0 2)) rfl dX2_takes_23 ?_
  refine x_topr ha11 ?_
  refine lv_aload_n (pc := 26) hx hb dX2_takes_26 rfl (lv_at hl 1 rfl) ?_
  replace hf := bs hf; obtain ⟨a12, ha12, hf⟩ := hf
  refine x_get (pc := 27) X V okX2 ht3 2 (by decide) q179 (v := va_rf (R x1 2)) rfl dX2_takes_27 ?_
  refine x_topr ha12 ?_
  replace hf := bs hf; obtain ⟨I13, hk_14, hf⟩ := hf
  refine x_callS0 (pc := 30) (As := [.ref a11, .ref a12]) (rest := []) X V (mX2_rows l D dA s0 hk_14) q464 q465 q121 q466 hsX2_rows ⟨Nat.le_of_ble_eq_true rfl, Nat.le_of_ble_eq_true rfl⟩ rfl hl.1 rfl (Nat.le_of_ble_eq_true rfl) dX2_takes_30 ⟨Nat.zero_le _, Nat.zero_le _⟩ (fun H locs V => W.eq (g2 := F0 m 33 ls []) rfl ?_)
  refine lv_aload_n (pc := 33) hx hb dX2_takes_33 rfl (lv_at hl 0 rfl) ?_
  refine lv_aload_n (pc := 34) hx hb dX2_takes_34 rfl (lv_at hl 1 rfl) ?_
  refine x_get (pc := 35) X V okX2 ht3 3 (by decide) q181 (v := .int (I13 x1 3)) rfl dX2_takes_35 ?_
  replace hf := nm_s hf; obtain ⟨I15, hI15, hf⟩ := hf
  refine x_puti (pc := 38) X V okX2 (by decide) ht1 3 (by decide) q181 (Or.inl rfl) hI15 (fun _ _ _ => rfl) rfl rfl dX2_takes_38 (fun H locs V => ?_)
  cases hf
  exact x_vret (pc := 41) X V hr dX2_takes_41
theorem mX2_takes (l : Launch) (D : va_G) (dA : Nat → ClassId) (s0 : Nat) {T : xT} {N : xT} {Z : Nat} {I : xI} {L : xL} {R : xR} {x0 : Nat} {x1 : Nat} {Io : xI} (hf : fX2_takes T N I R x0 x1 = some Io) : XMet l D dA s0 yX2_takes (ws_ yX2_takes cX2_takes 2 (none)) (2) (81) [.ref x0, .ref x1] T N Z I L R none T N Z Io L R 0 0 :=
  x_start (own := RX2) rfl (by decide) (Nat.le_of_ble_eq_true rfl) (lv := [(0, .ref x0), (1, .ref x1)]) rfl (fun p e s m below meth c ls X hr hini V hl => wX2_takes_e X hr hf V hl)
set_option maxHeartbeats 400000 in
set_option maxRecDepth 100000 in
theorem wX2_namedOf_b4 {nf : Nat} {p : Program} {l : Launch} {e : Env} {s : State} {m : MethodId} {args : Array Value} {below : List Frame} {meth : Method} {c : Code} {D : va_G} {dA : Nat → ClassId} {s0 : Nat} {T : xT} {N : xT} {Z : Nat} {I : xI} {L : xL} {R : xR}  {ro : Int32} (X : Cx D dA s0 p m c cX2_namedOf 4 s args RX2 meth) (hr : meth.sig.returnType = (some .int))   (k : Nat) : ∀ {x0 : Nat} {x1 : Int32} {x2 : Int32} {x3 : Int32} {H : Heap} {locs : List Loc} {ls : Array Slot} , fX2_namedOf_b4 nf T N I R k x0 x1 x2 x3 = some ro → Iv D dA s0 s T N Z I L R H locs → lv_has ls 4 [(0, .ref x0), (1, .int x1), (2, .int x2), (3, .int x3)] → W p l e { frames := 0, cells := 0, slots := 0, locals := 0 } s m args below meth c H locs 0 0 (MQ below (xQ D dA s0 (some (.int ro)) T N Z I L R) args s 0 0 (fun q => s0 ≤ q)) (F0 m 4 ls []) := by
  have hx := X.1.1
  have hb := X.1.2.1
  induction k with
  | zero =>
    intro x0 x1 x2 x3 H locs ls hf V hl
    exact absurd (show none = some _ from hf) (fun q => nomatch q)
  | succ k ih =>
    intro x0 x1 x2 x3 H locs ls hf V hl
    rw [fX2_namedOf_b4] at hf
    refine lv_iload_n (pc := 4) hx hb dX2_namedOf_4 rfl (lv_at hl 3 rfl) ?_
    refine lv_iload_n (pc := 5) hx hb dX2_namedOf_5 rfl (lv_at hl 1 rfl) ?_
    refine lv_icmp_ge (pc := 6) (tgt := 33) hx hb dX2_namedOf_6 (by decide) (fun c1 => ?_) (fun c1 => ?_)
    · replace hf := if_t hf c1
      refine lv_iload_n (pc := 33) hx hb dX2_namedOf_33 rfl (lv_at hl 2 rfl) ?_
      cases hf
      exact x_iret (pc := 34) X V hr dX2_namedOf_34
    · replace hf := if_f hf c1
      refine lv_iload_n (pc := 9) hx hb dX2_namedOf_9 rfl (lv_at hl 2 rfl) ?_
      refine lv_aload_n (pc := 10) hx hb dX2_namedOf_10 rfl (lv_at hl 0 rfl) ?_
      replace hf := tg_s hf; obtain ⟨ht2, hf⟩ := hf
      replace hf := bs hf; obtain ⟨a3, ha3, hf⟩ := hf
      refine x_get (pc := 11) X V okX2 ht2 2 (by decide) q179 (v := va_rf (R x0 2)) rfl dX2_namedOf_11 ?_
      refine x_topr ha3 ?_
      refine lv_iload_n (pc := 14) hx hb dX2_namedOf_14 rfl (lv_at hl 3 rfl) ?_
      replace hf := rA_s hf; obtain ⟨j4, hjj4, htj4, hij4, hf⟩ := hf
      refine x_iald (pc := 15) X V htj4 hij4 hjj4 dX2_namedOf_15 ?_
      refine lv_iconst (pc := 16) (v := (-1 : Int32)) hx hb dX2_namedOf_16 (by decide) ?_
      refine lv_icmp_ne (pc := 17) (tgt := 24) hx hb dX2_namedOf_17 (by decide) (fun c5 => ?_) (fun c5 => ?_)
      · replace hf := if_f hf c5
        refine lv_iconst (pc := 24) (v := (ii 1)) hx hb dX2_namedOf_24 (by decide) ?_
        refine lv_iadd (pc := 25) hx hb dX2_namedOf_25 ?_
        replace hf := nm_s hf; obtain ⟨u6, hu6, hf⟩ := hf
        refine x_topi hu6 ?_
        refine lv_istore_n (pc := 26) (lv' := [(2, .int u6), (0, .ref x0), (1, .int x1), (3, .int x3)]) hx hb dX2_namedOf_26 rfl hl (by decide) rfl (fun ls hl => ?_)
        replace hf := nm_s hf; obtain ⟨u7, hu7, hf⟩ := hf
        refine lv_iinc (pc := 27) (v := u7) (lv' := [(3, .int u7), (2, .int u6), (0, .ref x0), (1, .int x1)]) hx hb dX2_namedOf_27 hl (k := 3) rfl (by rw [hu7]; rfl) (by decide) rfl (fun ls hl => ?_)
        refine lv_goto (pc := 30) (tgt := 4) hx hb dX2_namedOf_30 (by decide) ?_
        exact ih hf V (lv_sub hl [2, 3, 1, 0] rfl)
      · replace hf := if_t hf c5
        refine lv_iconst (pc := 20) (v := (ii 0)) hx hb dX2_namedOf_20 (by decide) ?_
        refine lv_goto (pc := 21) (tgt := 25) hx hb dX2_namedOf_21 (by decide) ?_
        refine lv_iadd (pc := 25) hx hb dX2_namedOf_25 ?_
        replace hf := nm_s hf; obtain ⟨u8, hu8, hf⟩ := hf
        refine x_topi hu8 ?_
        refine lv_istore_n (pc := 26) (lv' := [(2, .int u8), (0, .ref x0), (1, .int x1), (3, .int x3)]) hx hb dX2_namedOf_26 rfl hl (by decide) rfl (fun ls hl => ?_)
        replace hf := nm_s hf; obtain ⟨u9, hu9, hf⟩ := hf
        refine lv_iinc (pc := 27) (v := u9) (lv' := [(3, .int u9), (2, .int u8), (0, .ref x0), (1, .int x1)]) hx hb dX2_namedOf_27 hl (k := 3) rfl (by rw [hu9]; rfl) (by decide) rfl (fun ls hl => ?_)
        refine lv_goto (pc := 30) (tgt := 4) hx hb dX2_namedOf_30 (by decide) ?_
        exact ih hf V (lv_sub hl [2, 3, 1, 0] rfl)
set_option maxHeartbeats 400000 in
set_option maxRecDepth 100000 in
theorem wX2_namedOf_e {nf : Nat} {p : Program} {l : Launch} {e : Env} {s : State} {m : MethodId} {args : Array Value} {below : List Frame} {meth : Method} {c : Code} {D : va_G} {dA : Nat → ClassId} {s0 : Nat} {T : xT} {N : xT} {Z : Nat} {I : xI} {L : xL} {R : xR} {H : Heap} {locs : List Loc} {ls : Array Slot} {x0 : Nat} {x1 : Int32} {ro : Int32} (X : Cx D dA s0 p m c cX2_namedOf 4 s args RX2 meth) (hr : meth.sig.returnType = (some .int)) (hf : fX2_namedOf nf T N I R x0 x1 = some ro) (V : Iv D dA s0 s T N Z I L R H locs) (hl : lv_has ls 4 [(0, .ref x0), (1, .int x1)]) : W p l e { frames := 0, cells := 0, slots := 0, locals := 0 } s m args below meth c H locs 0 0 (MQ below (xQ D dA s0 (some (.int ro)) T N Z I L R) args s 0 0 (fun q => s0 ≤ q)) (F0 m 0 ls []) := by
  have hx := X.1.1
  have hb := X.1.2.1
  unfold fX2_namedOf at hf
  refine lv_iconst (pc := 0) (v := (ii 0)) hx hb dX2_namedOf_0 (by decide) ?_
  refine lv_istore_n (pc := 1) (lv' := [(2, .int (ii 0)), (0, .ref x0), (1, .int x1)]) hx hb dX2_namedOf_1 rfl hl (by decide) rfl (fun ls hl => ?_)
  refine lv_iconst (pc := 2) (v := (ii 0)) hx hb dX2_namedOf_2 (by decide) ?_
  refine lv_istore_n (pc := 3) (lv' := [(3, .int (ii 0)), (2, .int (ii 0)), (0, .ref x0), (1, .int x1)]) hx hb dX2_namedOf_3 rfl hl (by decide) rfl (fun ls hl => ?_)
  exact wX2_namedOf_b4 X hr nf hf V (lv_sub hl [2, 3, 1, 0] rfl)
theorem mX2_namedOf {nf : Nat} (l : Launch) (D : va_G) (dA : Nat → ClassId) (s0 : Nat) {T : xT} {N : xT} {Z : Nat} {I : xI} {L : xL} {R : xR} {x0 : Nat} {x1 : Int32} {ro : Int32} (hf : fX2_namedOf nf T N I R x0 x1 = some ro) : XMet l D dA s0 yX2_namedOf (ws_ yX2_namedOf cX2_namedOf 4 ((some .int))) (0) (0) [.ref x0, .int x1] T N Z I L R (some (.int ro)) T N Z I L R 0 0 :=
  x_start (own := RX2) rfl (by decide) (Nat.le_of_ble_eq_true rfl) (lv := [(0, .ref x0), (1, .int x1)]) rfl (fun p e s m below meth c ls X hr hini V hl => wX2_namedOf_e X hr hf V hl)
set_option maxHeartbeats 400000 in
set_option maxRecDepth 100000 in
theorem wJ3_init_2_rX4_n12_e {p : Program} {l : Launch} {e : Env} {s : State} {m : MethodId} {args : Array Value} {below : List Frame} {meth : Method} {c : Code} {D : va_G} {dA : Nat → ClassId} {s0 : Nat} {T : xT} {N : xT} {Z : Nat} {I : xI} {L : xL} {R : xR} {H : Heap} {locs : List Loc} {ls : Array Slot} {x0 : Nat} {x3 : Int32} {x4 : Int32} {Ro : xR} (X : Cx D dA s0 p m c cJ3_init_2 5 s args RJ3 meth) (hr : meth.sig.returnType = none) (hini : meth.name = "<init>") (hf : fJ3_init_2_rX4_n12 (sv dA) T R x0 x3 x4 = some Ro) (V : Iv D dA s0 s T N Z I L R H locs) (hl : lv_has ls 5 [(0, .ref x0), (1, .null), (2, .null), (3, .int x3), (4, .int x4)]) : W p l e { frames := 1, cells := 0, slots := 0, locals := 20 } s m args below meth c H locs 0 0 (MQ below (xQ D dA s0 none T N Z I L Ro) args s 0 0 (fun q => s0 ≤ q)) (F0 m 0 ls []) := by
  have hx := X.1.1
  have hb := X.1.2.1
  unfold fJ3_init_2_rX4_n12 at hf
  refine lv_aload_n (pc := 0) hx hb dJ3_init_2_0 rfl (lv_at hl 0 rfl) ?_
  refine x_objInit (pc := 1) X q311 q161 q162 hl.1 (Nat.le_of_ble_eq_true rfl) (Nat.le_of_ble_eq_true rfl) dJ3_init_2_1 ?_
  refine lv_aload_n (pc := 4) hx hb dJ3_init_2_4 rfl (lv_at hl 0 rfl) ?_
  refine lv_aload_n (pc := 5) hx hb dJ3_init_2_5 rfl (lv_at hl 0 rfl) ?_
  replace hf := tg_s hf; obtain ⟨ht1, hf⟩ := hf
  replace hf := nm_s hf; obtain ⟨R2, hR2, hf⟩ := hf
  refine x_putr (pc := 6) X V okX4 (by decide) ht1 0 (by decide) q337 (Or.inl rfl) hR2 (fun _ _ _ => rfl) (v := .ref x0) rfl rfl rfl dJ3_init_2_6 (fun H locs V => ?_)
  refine lv_aload_n (pc := 9) hx hb dJ3_init_2_9 rfl (lv_at hl 0 rfl) ?_
  refine x_gets0 (pc := 10) X V q312 dJ3_init_2_10 ?_
  replace hf := nm_s hf; obtain ⟨R3, hR3, hf⟩ := hf
  refine x_putr (pc := 13) X V okX4 (by decide) ht1 1 (by decide) q338 (Or.inl rfl) hR3 (fun _ _ _ => rfl)  rfl (rf_n (by rfl)) (rf_f (by rfl)) dJ3_init_2_13 (fun H locs V => ?_)
  refine lv_aload_n (pc := 16) hx hb dJ3_init_2_16 rfl (lv_at hl 0 rfl) ?_
  refine x_gets1 (pc := 17) X V q314 dJ3_init_2_17 ?_
  replace hf := nm_s hf; obtain ⟨R4, hR4, hf⟩ := hf
  refine x_putr (pc := 20) X V okX4 (by decide) ht1 2 (by decide) q339 (Or.inl rfl) hR4 (fun _ _ _ => rfl)  rfl (rf_n (by rfl)) (rf_f (by rfl)) dJ3_init_2_20 (fun H locs V => ?_)
  refine lv_iload (pc := 23) hx hb dJ3_init_2_23 (lv_at hl 4 rfl) ?_
  refine lv_if_eq (pc := 25) (tgt := 36) hx hb dJ3_init_2_25 (by decide) (fun c5 => ?_) (fun c5 => ?_)
  · replace hf := if_t hf c5
    refine lv_aload_n (pc := 36) hx hb dJ3_init_2_36 rfl (lv_at hl 0 rfl) ?_
    refine lv_null (pc := 37) hx hb dJ3_init_2_37 ?_
    replace hf := nm_s hf; obtain ⟨R6, hR6, hf⟩ := hf
    refine x_putr (pc := 38) X V okX4 (by decide) ht1 1 (by decide) q338 (Or.inl rfl) hR6 (fun _ _ _ => rfl) (v := .null) rfl rfl rfl dJ3_init_2_38 (fun H locs V => ?_)
    refine lv_aload_n (pc := 41) hx hb dJ3_init_2_41 rfl (lv_at hl 0 rfl) ?_
    refine lv_aload_nN (pc := 42) hx hb dJ3_init_2_42 rfl (lv_at hl 1 rfl) ?_
    replace hf := nm_s hf; obtain ⟨R7, hR7, hf⟩ := hf
    refine x_putr (pc := 43) X V okX4 (by decide) ht1 3 (by decide) q336 (Or.inl rfl) hR7 (fun _ _ _ => rfl) (v := .null) rfl rfl rfl dJ3_init_2_43 (fun H locs V => ?_)
    refine lv_aload_n (pc := 46) hx hb dJ3_init_2_46 rfl (lv_at hl 0 rfl) ?_
    refine lv_aload_nN (pc := 47) hx hb dJ3_init_2_47 rfl (lv_at hl 2 rfl) ?_
    replace hf := nm_s hf; obtain ⟨R8, hR8, hf⟩ := hf
    refine x_putr (pc := 48) X V okX4 (by decide) ht1 0 (by decide) q337 (Or.inl rfl) hR8 (fun _ _ _ => rfl) (v := .null) rfl rfl rfl dJ3_init_2_48 (fun H locs V => ?_)
    refine lv_iload_n (pc := 51) hx hb dJ3_init_2_51 rfl (lv_at hl 3 rfl) ?_
    refine lv_if_ne (pc := 52) (tgt := 60) hx hb dJ3_init_2_52 (by decide) (fun c9 => ?_) (fun c9 => ?_)
    · replace hf := if_f hf c9
      cases hf
      exact x_vret (pc := 60) X V hr dJ3_init_2_60
    · replace hf := if_t hf c9
      refine lv_aload_n (pc := 55) hx hb dJ3_init_2_55 rfl (lv_at hl 0 rfl) ?_
      refine lv_null (pc := 56) hx hb dJ3_init_2_56 ?_
      replace hf := nm_s hf; obtain ⟨R10, hR10, hf⟩ := hf
      refine x_putr (pc := 57) X V okX4 (by decide) ht1 2 (by decide) q339 (Or.inl rfl) hR10 (fun _ _ _ => rfl) (v := .null) rfl rfl rfl dJ3_init_2_57 (fun H locs V => ?_)
      cases hf
      exact x_vret (pc := 60) X V hr dJ3_init_2_60
  · replace hf := if_f hf c5
    refine lv_aload_n (pc := 28) hx hb dJ3_init_2_28 rfl (lv_at hl 0 rfl) ?_
    cases hf
theorem mJ3_init_2_rX4_n12 (l : Launch) (D : va_G) (dA : Nat → ClassId) (s0 : Nat) {T : xT} {N : xT} {Z : Nat} {I : xI} {L : xL} {R : xR} {x0 : Nat} {x3 : Int32} {x4 : Int32} {Ro : xR} (hf : fJ3_init_2_rX4_n12 (sv dA) T R x0 x3 x4 = some Ro) : XMet l D dA s0 yJ3_init_2 (ws_ yJ3_init_2 cJ3_init_2 5 (none)) (1) (20) [.ref x0, .null, .null, .int x3, .int x4] T N Z I L R none T N Z I L Ro 0 0 :=
  x_start (own := RJ3) rfl (by decide) (Nat.le_of_ble_eq_true rfl) (lv := [(0, .ref x0), (1, .null), (2, .null), (3, .int x3), (4, .int x4)]) rfl (fun p e s m below meth c ls X hr hini V hl => wJ3_init_2_rX4_n12_e X hr hini hf V hl)
set_option maxHeartbeats 400000 in
set_option maxRecDepth 100000 in
theorem wJ4_init_rX4_n12_e {p : Program} {l : Launch} {e : Env} {s : State} {m : MethodId} {args : Array Value} {below : List Frame} {meth : Method} {c : Code} {D : va_G} {dA : Nat → ClassId} {s0 : Nat} {T : xT} {N : xT} {Z : Nat} {I : xI} {L : xL} {R : xR} {H : Heap} {locs : List Loc} {ls : Array Slot} {x0 : Nat} {x3 : Int32} {x4 : Int32} {Ro : xR} (X : Cx D dA s0 p m c cJ4_init 5 s args RJ4 meth) (hr : meth.sig.returnType = none) (hini : meth.name = "<init>") (hf : fJ4_init_rX4_n12 (sv dA) T R x0 x3 x4 = some Ro) (V : Iv D dA s0 s T N Z I L R H locs) (hl : lv_has ls 5 [(0, .ref x0), (1, .null), (2, .null), (3, .int x3), (4, .int x4)]) : W p l e { frames := 2, cells := 0, slots := 0, locals := 44 } s m args below meth c H locs 0 0 (MQ below (xQ D dA s0 none T N Z I L Ro) args s 0 0 (fun q => s0 ≤ q)) (F0 m 0 ls []) := by
  have hx := X.1.1
  have hb := X.1.2.1
  unfold fJ4_init_rX4_n12 at hf
  refine lv_aload_n (pc := 0) hx hb dJ4_init_0 rfl (lv_at hl 0 rfl) ?_
  refine lv_aload_nN (pc := 1) hx hb dJ4_init_1 rfl (lv_at hl 1 rfl) ?_
  refine lv_aload_nN (pc := 2) hx hb dJ4_init_2 rfl (lv_at hl 2 rfl) ?_
  refine lv_iload_n (pc := 3) hx hb dJ4_init_3 rfl (lv_at hl 3 rfl) ?_
  refine lv_iload (pc := 4) hx hb dJ4_init_4 (lv_at hl 4 rfl) ?_
  replace hf := bs hf; obtain ⟨R1, hk_2, hf⟩ := hf
  refine x_callI0 (pc := 6) (As := [.null, .null, .int x3, .int x4]) (rest := []) X V (mJ3_init_2_rX4_n12 l D dA s0 hk_2) q332 q333 q126 q334 rfl hsJ3_init_2_rX4_n12 ⟨Nat.le_of_ble_eq_true rfl, Nat.le_of_ble_eq_true rfl⟩ rfl hl.1 rfl (Nat.le_of_ble_eq_true rfl) dJ4_init_6 ⟨Nat.zero_le _, Nat.zero_le _⟩ (fun H locs V => W.eq (g2 := F0 m 9 ls []) rfl ?_)
  cases hf
  exact x_vret (pc := 9) X V hr dJ4_init_9
theorem mJ4_init_rX4_n12 (l : Launch) (D : va_G) (dA : Nat → ClassId) (s0 : Nat) {T : xT} {N : xT} {Z : Nat} {I : xI} {L : xL} {R : xR} {x0 : Nat} {x3 : Int32} {x4 : Int32} {Ro : xR} (hf : fJ4_init_rX4_n12 (sv dA) T R x0 x3 x4 = some Ro) : XMet l D dA s0 yJ4_init (ws_ yJ4_init cJ4_init 5 (none)) (2) (44) [.ref x0, .null, .null, .int x3, .int x4] T N Z I L R none T N Z I L Ro 0 0 :=
  x_start (own := RJ4) rfl (by decide) (Nat.le_of_ble_eq_true rfl) (lv := [(0, .ref x0), (1, .null), (2, .null), (3, .int x3), (4, .int x4)]) rfl (fun p e s m below meth c ls X hr hini V hl => wJ4_init_rX4_n12_e X hr hini hf V hl)
set_option maxHeartbeats 400000 in
set_option maxRecDepth 100000 in
theorem wX4_init_e {p : Program} {l : Launch} {e : Env} {s : State} {m : MethodId} {args : Array Value} {below : List Frame} {meth : Method} {c : Code} {D : va_G} {dA : Nat → ClassId} {s0 : Nat} {T : xT} {N : xT} {Z : Nat} {I : xI} {L : xL} {R : xR} {H : Heap} {locs : List Loc} {ls : Array Slot} {x0 : Nat} {Ro : xR} (X : Cx D dA s0 p m c cX4_init 1 s args RX4 meth) (hr : meth.sig.returnType = none) (hini : meth.name = "<init>") (hf : fX4_init (sv dA) T R x0 = some Ro) (V : Iv D dA s0 s T N Z I L R H locs) (hl : lv_has ls 1 [(0, .ref x0)]) : W p l e { frames := 3, cells := 0, slots := 0, locals := 68 } s m args below meth c H locs 0 0 (MQ below (xQ D dA s0 none T N Z I L Ro) args s 0 0 (fun q => s0 ≤ q)) (F0 m 0 ls []) := by
  have hx := X.1.1
  have hb := X.1.2.1
  unfold fX4_init at hf
  refine lv_aload_n (pc := 0) hx hb dX4_init_0 rfl (lv_at hl 0 rfl) ?_
  refine lv_null (pc := 1) hx hb dX4_init_1 ?_
  refine lv_null (pc := 2) hx hb dX4_init_2 ?_
  refine lv_iconst (pc := 3) (v := (ii 0)) hx hb dX4_init_3 (by decide) ?_
  refine lv_iconst (pc := 4) (v := (ii 0)) hx hb dX4_init_4 (by decide) ?_
  replace hf := bs hf; obtain ⟨R1, hk_2, hf⟩ := hf
  refine x_callI0 (pc := 5) (As := [.null, .null, .int (ii 0), .int (ii 0)]) (rest := []) X V (mJ4_init_rX4_n12 l D dA s0 hk_2) q329 q330 q127 q331 rfl hsJ4_init_rX4_n12 ⟨Nat.le_of_ble_eq_true rfl, Nat.le_of_ble_eq_true rfl⟩ rfl hl.1 rfl (Nat.le_of_ble_eq_true rfl) dX4_init_5 ⟨Nat.zero_le _, Nat.zero_le _⟩ (fun H locs V => W.eq (g2 := F0 m 8 ls []) rfl ?_)
  cases hf
  exact x_vret (pc := 8) X V hr dX4_init_8
theorem mX4_init (l : Launch) (D : va_G) (dA : Nat → ClassId) (s0 : Nat) {T : xT} {N : xT} {Z : Nat} {I : xI} {L : xL} {R : xR} {x0 : Nat} {Ro : xR} (hf : fX4_init (sv dA) T R x0 = some Ro) : XMet l D dA s0 yX4_init (ws_ yX4_init cX4_init 1 (none)) (3) (68) [.ref x0] T N Z I L R none T N Z I L Ro 0 0 :=
  x_start (own := RX4) rfl (by decide) (Nat.le_of_ble_eq_true rfl) (lv := [(0, .ref x0)]) rfl (fun p e s m below meth c ls X hr hini V hl => wX4_init_e X hr hini hf V hl)
set_option maxHeartbeats 400000 in
set_option maxRecDepth 100000 in
theorem zX3_init_b20 {dA : Nat → ClassId} {T : xT} {N : xT} {Z : Nat} {S : Nat} {R : xR}  {z0 : Nat} {z1 : Nat} {To : xT} {No : xT} {Zo : Nat} {So : Nat} {Ro : xR}  (hf : fX3_init_b20 (sv dA) T N Z S R z0 z1 = some (To, No, Zo, So, Ro)) : Z ≤ Zo ∧ S ≤ So := by
  unfold fX3_init_b20 at hf
  replace hf := tg_s hf; obtain ⟨ht1, hf⟩ := hf
  replace hf := nm_s hf; obtain ⟨R2, hR2, hf⟩ := hf
  cases hf
  exact ⟨Nat.le_refl _, Nat.le_refl _⟩
set_option maxHeartbeats 400000 in
set_option maxRecDepth 100000 in
theorem wX3_init_b20 {kc ks : Nat} {cells slots : Nat} {p : Program} {l : Launch} {e : Env} {s : State} {m : MethodId} {args : Array Value} {below : List Frame} {meth : Method} {c : Code} {D : va_G} {dA : Nat → ClassId} {s0 : Nat} {T : xT} {N : xT} {Z : Nat} {S : Nat} {I : xI} {L : xL} {R : xR} {H : Heap} {locs : List Loc} {ls : Array Slot}  {z0 : Nat} {z1 : Nat} {To : xT} {No : xT} {Zo : Nat} {So : Nat} {Ro : xR} (X : Cx D dA s0 p m c cX3_init 1 s args RX3 meth) (hr : meth.sig.returnType = none) (hini : meth.name = "<init>")   (hf : fX3_init_b20 (sv dA) T N Z S R z0 z1 = some (To, No, Zo, So, Ro)) (V : Iv D dA s0 s T N Z I L R H locs) (hl : lv_has ls 1 []) (hB : cells + (Zo - Z) ≤ kc ∧ slots + (So - S) ≤ ks) : W p l e { frames := 4, cells := kc, slots := ks, locals := 88 } s m args below meth c H locs cells slots (MQ below (xQ D dA s0 none To No Zo I L Ro) args s kc ks (fun q => s0 ≤ q)) (F0 m 20 ls [.ref z1, .ref z0]) := by
  have hx := X.1.1
  have hb := X.1.2.1
  unfold fX3_init_b20 at hf
  replace hf := tg_s hf; obtain ⟨ht1, hf⟩ := hf
  replace hf := nm_s hf; obtain ⟨R2, hR2, hf⟩ := hf
  refine x_putr (pc := 20) X V okX3 (by decide) ht1 1 (by decide) q351 (Or.inr ⟨rfl, hini, rfl⟩) hR2 (fun _ _ _ => rfl) (v := .ref z1) rfl rfl rfl dX3_init_20 (fun H locs V => ?_)
  cases hf
  exact x_vretW (pc := 23) X V hr (by omega) (by omega) dX3_init_23
set_option maxHeartbeats 400000 in
set_option maxRecDepth 100000 in
theorem zX3_init_b8 {dA : Nat → ClassId} {T : xT} {N : xT} {Z : Nat} {S : Nat} {R : xR}  {x0 : Nat} {z0 : Nat} {z1 : Nat} {To : xT} {No : xT} {Zo : Nat} {So : Nat} {Ro : xR}  (hf : fX3_init_b8 (sv dA) T N Z S R x0 z0 z1 = some (To, No, Zo, So, Ro)) : Z ≤ Zo ∧ S ≤ So := by
  unfold fX3_init_b8 at hf
  replace hf := bs hf; obtain ⟨R1, hk_2, hf⟩ := hf
  replace hf := tg_s hf; obtain ⟨ht3, hf⟩ := hf
  replace hf := nm_s hf; obtain ⟨R4, hR4, hf⟩ := hf
  replace hf := nm_s hf; obtain ⟨T5, hT5, hf⟩ := hf
  replace hf := nm_s hf; obtain ⟨N6, hN6, hf⟩ := hf
  replace hf := nm_s hf; obtain ⟨Z7, hZ7, hf⟩ := hf
  replace hf := nm_s hf; obtain ⟨S8, hS8, hf⟩ := hf
  have hm := zX3_init_b20 hf
  exact ⟨by omega, by omega⟩
set_option maxHeartbeats 400000 in
set_option maxRecDepth 100000 in
theorem wX3_init_b8 {kc ks : Nat} {cells slots : Nat} {p : Program} {l : Launch} {e : Env} {s : State} {m : MethodId} {args : Array Value} {below : List Frame} {meth : Method} {c : Code} {D : va_G} {dA : Nat → ClassId} {s0 : Nat} {T : xT} {N : xT} {Z : Nat} {S : Nat} {I : xI} {L : xL} {R : xR} {H : Heap} {locs : List Loc} {ls : Array Slot}  {x0 : Nat} {z0 : Nat} {z1 : Nat} {To : xT} {No : xT} {Zo : Nat} {So : Nat} {Ro : xR} (X : Cx D dA s0 p m c cX3_init 1 s args RX3 meth) (hr : meth.sig.returnType = none) (hini : meth.name = "<init>")   (hf : fX3_init_b8 (sv dA) T N Z S R x0 z0 z1 = some (To, No, Zo, So, Ro)) (V : Iv D dA s0 s T N Z I L R H locs) (hl : lv_has ls 1 [(0, .ref x0)]) (hB : cells + (Zo - Z) ≤ kc ∧ slots + (So - S) ≤ ks) : W p l e { frames := 4, cells := kc, slots := ks, locals := 88 } s m args below meth c H locs cells slots (MQ below (xQ D dA s0 none To No Zo I L Ro) args s kc ks (fun q => s0 ≤ q)) (F0 m 8 ls [.ref z1, .ref z0]) := by
  have hx := X.1.1
  have hb := X.1.2.1
  unfold fX3_init_b8 at hf
  refine lv_dup (pc := 8) hx hb dX3_init_8 rfl ?_
  replace hf := bs hf; obtain ⟨R1, hk_2, hf⟩ := hf
  refine x_callI0 (pc := 9) (As := []) (rest := [.ref z1, .ref z0]) X V (mX4_init l D dA s0 hk_2) q326 q327 q128 q328 rfl hsX4_init ⟨Nat.le_of_ble_eq_true rfl, Nat.le_of_ble_eq_true rfl⟩ rfl hl.1 rfl (Nat.le_of_ble_eq_true rfl) dX3_init_9 ⟨by show cells ≤ kc; omega, by show slots ≤ ks; omega⟩ (fun H locs V => W.eq (g2 := F0 m 12 ls [.ref z1, .ref z0]) rfl ?_)
  replace hf := tg_s hf; obtain ⟨ht3, hf⟩ := hf
  replace hf := nm_s hf; obtain ⟨R4, hR4, hf⟩ := hf
  refine x_putr (pc := 12) X V okX3 (by decide) ht3 0 (by decide) q349 (Or.inr ⟨rfl, hini, rfl⟩) hR4 (fun _ _ _ => rfl) (v := .ref z1) rfl rfl rfl dX3_init_12 (fun H locs V => ?_)
  refine lv_aload_n (pc := 15) hx hb dX3_init_15 rfl (lv_at hl 0 rfl) ?_
  refine lv_bipush (pc := 16) (v := (ii 19)) hx hb dX3_init_16 (by decide) ?_
  replace hf := nm_s hf; obtain ⟨T5, hT5, hf⟩ := hf
  replace hf := nm_s hf; obtain ⟨N6, hN6, hf⟩ := hf
  replace hf := nm_s hf; obtain ⟨Z7, hZ7, hf⟩ := hf
  replace hf := nm_s hf; obtain ⟨S8, hS8, hf⟩ := hf
  have hm := zX3_init_b20 hf
  refine x_newa (pc := 18) X V (atype := .long) (k := 3) rfl (by decide) q359 (by decide) hT5 hN6 hZ7 (by show _ ≤ kc; omega) (by show _ ≤ ks; omega) dX3_init_18 (fun H V => ?_)
  exact wX3_init_b20 X hr hini hf V (lv_sub hl [] rfl) ⟨by omega, by omega⟩
set_option maxHeartbeats 400000 in
set_option maxRecDepth 100000 in
theorem zX3_init {dA : Nat → ClassId} {T : xT} {N : xT} {Z : Nat} {S : Nat} {R : xR} {x0 : Nat} {To : xT} {No : xT} {Zo : Nat} {So : Nat} {Ro : xR} (hf : fX3_init (sv dA) T N Z S R x0 = some (To, No, Zo, So, Ro)) : Z ≤ Zo ∧ S ≤ So := by
  unfold fX3_init at hf
  replace hf := nm_s hf; obtain ⟨T1, hT1, hf⟩ := hf
  replace hf := nm_s hf; obtain ⟨Z2, hZ2, hf⟩ := hf
  replace hf := nm_s hf; obtain ⟨S3, hS3, hf⟩ := hf
  have hm := zX3_init_b8 hf
  exact ⟨by omega, by omega⟩
set_option maxHeartbeats 400000 in
set_option maxRecDepth 100000 in
theorem wX3_init_e {kc ks : Nat} {cells slots : Nat} {p : Program} {l : Launch} {e : Env} {s : State} {m : MethodId} {args : Array Value} {below : List Frame} {meth : Method} {c : Code} {D : va_G} {dA : Nat → ClassId} {s0 : Nat} {T : xT} {N : xT} {Z : Nat} {S : Nat} {I : xI} {L : xL} {R : xR} {H : Heap} {locs : List Loc} {ls : Array Slot} {x0 : Nat} {To : xT} {No : xT} {Zo : Nat} {So : Nat} {Ro : xR} (X : Cx D dA s0 p m c cX3_init 1 s args RX3 meth) (hr : meth.sig.returnType = none) (hini : meth.name = "<init>") (hf : fX3_init (sv dA) T N Z S R x0 = some (To, No, Zo, So, Ro)) (V : Iv D dA s0 s T N Z I L R H locs) (hl : lv_has ls 1 [(0, .ref x0)]) (hB : cells + (Zo - Z) ≤ kc ∧ slots + (So - S) ≤ ks) : W p l e { frames := 4, cells := kc, slots := ks, locals := 88 } s m args below meth c H locs cells slots (MQ below (xQ D dA s0 none To No Zo I L Ro) args s kc ks (fun q => s0 ≤ q)) (F0 m 0 ls []) := by
  have hx := X.1.1
  have hb := X.1.2.1
  unfold fX3_init at hf
  refine lv_aload_n (pc := 0) hx hb dX3_init_0 rfl (lv_at hl 0 rfl) ?_
  refine x_objInit (pc := 1) X q287 q161 q162 hl.1 (Nat.le_of_ble_eq_true rfl) (Nat.le_of_ble_eq_true rfl) dX3_init_1 ?_
  refine lv_aload_n (pc := 4) hx hb dX3_init_4 rfl (lv_at hl 0 rfl) ?_
  replace hf := nm_s hf; obtain ⟨T1, hT1, hf⟩ := hf
  replace hf := nm_s hf; obtain ⟨Z2, hZ2, hf⟩ := hf
  replace hf := nm_s hf; obtain ⟨S3, hS3, hf⟩ := hf
  have hm := zX3_init_b8 hf
  refine x_new (pc := 5) X V okX4 hT1 hZ2 q288 q289 q128 (by show _ ≤ kc; omega) (by show _ ≤ ks; omega) dX3_init_5 (fun H V => ?_)
  exact wX3_init_b8 X hr hini hf V (lv_sub hl [0] rfl) ⟨by omega, by omega⟩
theorem mX3_init (l : Launch) (D : va_G) (dA : Nat → ClassId) (s0 : Nat) {kc ks : Nat} {T : xT} {N : xT} {Z : Nat} {S : Nat} {I : xI} {L : xL} {R : xR} {x0 : Nat} {To : xT} {No : xT} {Zo : Nat} {So : Nat} {Ro : xR} (hZ : Zo - Z ≤ kc) (hS : So - S ≤ ks) (hf : fX3_init (sv dA) T N Z S R x0 = some (To, No, Zo, So, Ro)) : XMet l D dA s0 yX3_init (ws_ yX3_init cX3_init 1 (none)) (4) (88) [.ref x0] T N Z I L R none To No Zo I L Ro kc ks :=
  x_start (own := RX3) rfl (by decide) (Nat.le_of_ble_eq_true rfl) (lv := [(0, .ref x0)]) rfl (fun p e s m below meth c ls X hr hini V hl => wX3_init_e X hr hini hf V hl ⟨by omega, by omega⟩)
set_option maxHeartbeats 400000 in
set_option maxRecDepth 100000 in
theorem wX11_of_e {p : Program} {l : Launch} {e : Env} {s : State} {m : MethodId} {args : Array Value} {below : List Frame} {meth : Method} {c : Code} {D : va_G} {dA : Nat → ClassId} {s0 : Nat} {T : xT} {N : xT} {Z : Nat} {I : xI} {L : xL} {R : xR} {H : Heap} {locs : List Loc} {ls : Array Slot} {x0 : Nat} {x1 : Nat} {ro : Int64} (X : Cx D dA s0 p m c cX11_of 2 s args RX11 meth) (hr : meth.sig.returnType = (some .long)) (hf : fX11_of T I x0 x1 = some ro) (V : Iv D dA s0 s T N Z I L R H locs) (hl : lv_has ls 2 [(0, .ref x0), (1, .ref x1)]) : W p l e { frames := 0, cells := 0, slots := 0, locals := 0 } s m args below meth c H locs 0 0 (MQ below (xQ D dA s0 (some (.long ro)) T N Z I L R) args s 0 0 (fun q => s0 ≤ q)) (F0 m 0 ls []) := by
  have hx := X.1.1
  have hb := X.1.2.1
  unfold fX11_of at hf
  refine lv_aload_n (pc := 0) hx hb dX11_of_0 rfl (lv_at hl 0 rfl) ?_
  replace hf := tg_s hf; obtain ⟨ht1, hf⟩ := hf
  refine x_get (pc := 1) X V okX11 ht1 0 (by decide) q958 (v := .int (I x0 0)) rfl dX11_of_1 ?_
  refine lv_i2l (pc := 4) hx hb dX11_of_4 rfl ?_
  cases hf
  exact x_lret (pc := 5) X V hr dX11_of_5
theorem mX11_of (l : Launch) (D : va_G) (dA : Nat → ClassId) (s0 : Nat) {T : xT} {N : xT} {Z : Nat} {I : xI} {L : xL} {R : xR} {x0 : Nat} {x1 : Nat} {ro : Int64} (hf : fX11_of T I x0 x1 = some ro) : XMet l D dA s0 yX11_of (ws_ yX11_of cX11_of 2 ((some .long))) (0) (0) [.ref x0, .ref x1] T N Z I L R (some (.long ro)) T N Z I L R 0 0 :=
  x_start (own := RX11) rfl (by decide) (Nat.le_of_ble_eq_true rfl) (lv := [(0, .ref x0), (1, .ref x1)]) rfl (fun p e s m below meth c ls X hr hini V hl => wX11_of_e X hr hf V hl)
set_option maxHeartbeats 400000 in
set_option maxRecDepth 100000 in
theorem wX12_of_e {p : Program} {l : Launch} {e : Env} {s : State} {m : MethodId} {args : Array Value} {below : List Frame} {meth : Method} {c : Code} {D : va_G} {dA : Nat → ClassId} {s0 : Nat} {T : xT} {N : xT} {Z : Nat} {I : xI} {L : xL} {R : xR} {H : Heap} {locs : List Loc} {ls : Array Slot} {x0 : Nat} {x1 : Nat} {ro : Int64} (X : Cx D dA s0 p m c cX12_of 2 s args RX12 meth) (hr : meth.sig.returnType = (some .long)) (hf : fX12_of T N I L R x0 x1 = some ro) (V : Iv D dA s0 s T N Z I L R H locs) (hl : lv_has ls 2 [(0, .ref x0), (1, .ref x1)]) : W p l e { frames := 0, cells := 0, slots := 0, locals := 0 } s m args below meth c H locs 0 0 (MQ below (xQ D dA s0 (some (.long ro)) T N Z I L R) args s 0 0 (fun q => s0 ≤ q)) (F0 m 0 ls []) := by
  have hx := X.1.1
  have hb := X.1.2.1
  unfold fX12_of at hf
  refine lv_aload_n (pc := 0) hx hb dX12_of_0 rfl (lv_at hl 1 rfl) ?_
  replace hf := tg_s hf; obtain ⟨ht1, hf⟩ := hf
  replace hf := bs hf; obtain ⟨a2, ha2, hf⟩ := hf
  refine x_getN (pc := 1) X V okX3 ht1 1 (by decide) q352 (v := va_rf (R x1 1)) rfl dX12_of_1 ?_
  refine x_topr ha2 ?_
  refine lv_aload_n (pc := 4) hx hb dX12_of_4 rfl (lv_at hl 0 rfl) ?_
  replace hf := tg_s hf; obtain ⟨ht3, hf⟩ := hf
  refine x_get (pc := 5) X V okX12 ht3 0 (by decide) q1006 (v := .int (I x0 0)) rfl dX12_of_5 ?_
  replace hf := rA_s hf; obtain ⟨j4, hjj4, htj4, hij4, hf⟩ := hf
  refine x_lald (pc := 8) X V htj4 hij4 hjj4 dX12_of_8 ?_
  cases hf
  exact x_lret (pc := 9) X V hr dX12_of_9
theorem mX12_of (l : Launch) (D : va_G) (dA : Nat → ClassId) (s0 : Nat) {T : xT} {N : xT} {Z : Nat} {I : xI} {L : xL} {R : xR} {x0 : Nat} {x1 : Nat} {ro : Int64} (hf : fX12_of T N I L R x0 x1 = some ro) : XMet l D dA s0 yX12_of (ws_ yX12_of cX12_of 2 ((some .long))) (0) (0) [.ref x0, .ref x1] T N Z I L R (some (.long ro)) T N Z I L R 0 0 :=
  x_start (own := RX12) rfl (by decide) (Nat.le_of_ble_eq_true rfl) (lv := [(0, .ref x0), (1, .ref x1)]) rfl (fun p e s m below meth c ls X hr hini V hl => wX12_of_e X hr hf V hl)
set_option maxHeartbeats 400000 in
set_option maxRecDepth 100000 in
theorem wX13_of_b117 {fd ld : Nat} {rc : xT → xT → xI → xL → xR → Nat → Nat → Option ((Nat ⊕ Int64))} {p : Program} {l : Launch} {e : Env} {s : State} {m : MethodId} {args : Array Value} {below : List Frame} {meth : Method} {c : Code} {D : va_G} {dA : Nat → ClassId} {s0 : Nat} {T : xT} {N : xT} {Z : Nat} {I : xI} {L : xL} {R : xR} {H : Heap} {locs : List Loc} {ls : Array Slot}  {x1 : Nat} {z0 : Int64} {ro : (Nat ⊕ Int64)} (X : Cx D dA s0 p m c cX13_of 8 s args RX13 meth) (hr : meth.sig.returnType = (some .long)) (htE : c.exceptionTable.toList = []) (hrc : Run_Sum_of l D dA s0 fd ld rc)   (hf : fX13_of_b117 rc T N I L R x1 z0 = some ro) (V : Iv D dA s0 s T N Z I L R H locs) (hl : lv_has ls 8 [(1, .ref x1)]) : W p l e { frames := fd + 1, cells := 0, slots := 0, locals := ld + 60 } s m args below meth c H locs 0 0 (vx_MQ below (yQ D dA s0 (rL ro) T N Z I L R) (yX D dA s0 (rL ro) T N Z I L R) args s 0 0 (fun q => s0 ≤ q)) (F0 m 117 ls [.long z0]) := by
  have hx := X.1.1
  have hb := X.1.2.1
  unfold fX13_of_b117 at hf
  refine lv_lstore (pc := 117) (lv' := [(6, .long z0), (1, .ref x1)]) hx hb dX13_of_117 hl (by decide) rfl (fun ls hl => ?_)
  refine lv_lload (pc := 119) hx hb dX13_of_119 (lv_at hl 0 rfl) ?_
  refine lv_ldc2 (pc := 121) (v := (jj 1000000000)) hx hb X.1.2.2.2.1 (X.1.2.2.2.2 _ q651) dX13_of_121 ?_
  refine lc_gt (pc := 124) (tgt := 137) hx hb dX13_of_124 dX13_of_125 (by decide) (fun c1 => ?_) (fun c1 => ?_)
  · replace hf := if_t hf c1
    refine lv_aload_n (pc := 137) hx hb dX13_of_137 rfl (lv_at hl 1 rfl) ?_
    replace hf := tg_s hf; obtain ⟨ht2, hf⟩ := hf
    replace hf := bs hf; obtain ⟨a3, ha3, hf⟩ := hf
    refine x_getN (pc := 138) X V okX3 ht2 0 (by decide) q350 (v := va_rf (R x1 0)) rfl dX13_of_138 ?_
    refine x_topr ha3 ?_
    replace hf := tg_s hf; obtain ⟨ht4, hf⟩ := hf
    refine vx_athrow (pc := 141) hx hb dX13_of_141 ?_
    cases hf
    exact y_out X V htE okX4 ht4 (Nat.zero_le _) (Nat.zero_le _)
  · replace hf := if_f hf c1
    refine lv_lload (pc := 128) hx hb dX13_of_128 (lv_at hl 0 rfl) ?_
    refine lv_ldc2 (pc := 130) (v := (-1000000000 : Int64)) hx hb X.1.2.2.2.1 (X.1.2.2.2.2 _ q652) dX13_of_130 ?_
    refine lc_ge (pc := 133) (tgt := 142) hx hb dX13_of_133 dX13_of_134 (by decide) (fun c5 => ?_) (fun c5 => ?_)
    · replace hf := if_t hf c5
      refine lv_lload (pc := 142) hx hb dX13_of_142 (lv_at hl 0 rfl) ?_
      cases hf
      exact y_lret (pc := 144) X V hr (Nat.zero_le _) (Nat.zero_le _) dX13_of_144
    · replace hf := if_f hf c5
      refine lv_aload_n (pc := 137) hx hb dX13_of_137 rfl (lv_at hl 1 rfl) ?_
      replace hf := tg_s hf; obtain ⟨ht6, hf⟩ := hf
      replace hf := bs hf; obtain ⟨a7, ha7, hf⟩ := hf
      refine x_getN (pc := 138) X V okX3 ht6 0 (by decide) q350 (v := va_rf (R x1 0)) rfl dX13_of_138 ?_
      refine x_topr ha7 ?_
      replace hf := tg_s hf; obtain ⟨ht8, hf⟩ := hf
      refine vx_athrow (pc := 141) hx hb dX13_of_141 ?_
      cases hf
      exact y_out X V htE okX4 ht8 (Nat.zero_le _) (Nat.zero_le _)
set_option maxHeartbeats 400000 in
set_option maxRecDepth 100000 in
theorem wX13_of_b49 {fd ld : Nat} {rc : xT → xT → xI → xL → xR → Nat → Nat → Option ((Nat ⊕ Int64))} {p : Program} {l : Launch} {e : Env} {s : State} {m : MethodId} {args : Array Value} {below : List Frame} {meth : Method} {c : Code} {D : va_G} {dA : Nat → ClassId} {s0 : Nat} {T : xT} {N : xT} {Z : Nat} {I : xI} {L : xL} {R : xR} {H : Heap} {locs : List Loc} {ls : Array Slot}  {x0 : Nat} {x1 : Nat} {x2 : Int64} {x4 : Int64} {ro : (Nat ⊕ Int64)} (X : Cx D dA s0 p m c cX13_of 8 s args RX13 meth) (hr : meth.sig.returnType = (some .long)) (htE : c.exceptionTable.toList = []) (hrc : Run_Sum_of l D dA s0 fd ld rc)   (hf : fX13_of_b49 rc T N I L R x0 x1 x2 x4 = some ro) (V : Iv D dA s0 s T N Z I L R H locs) (hl : lv_has ls 8 [(0, .ref x0), (1, .ref x1), (2, .long x2), (4, .long x4)]) : W p l e { frames := fd + 1, cells := 0, slots := 0, locals := ld + 60 } s m args below meth c H locs 0 0 (vx_MQ below (yQ D dA s0 (rL ro) T N Z I L R) (yX D dA s0 (rL ro) T N Z I L R) args s 0 0 (fun q => s0 ≤ q)) (F0 m 49 ls []) := by
  have hx := X.1.1
  have hb := X.1.2.1
  unfold fX13_of_b49 at hf
  refine lv_aload_n (pc := 49) hx hb dX13_of_49 rfl (lv_at hl 0 rfl) ?_
  replace hf := tg_s hf; obtain ⟨ht1, hf⟩ := hf
  refine x_get (pc := 50) X V okX13 ht1 0 (by decide) q1019 (v := .int (I x0 0)) rfl dX13_of_50 ?_
  refine lv_bipush (pc := 53) (v := (ii 43)) hx hb dX13_of_53 (by decide) ?_
  refine lv_icmp_ne (pc := 55) (tgt := 65) hx hb dX13_of_55 (by decide) (fun c2 => ?_) (fun c2 => ?_)
  · replace hf := if_f hf c2
    refine lv_aload_n (pc := 65) hx hb dX13_of_65 rfl (lv_at hl 0 rfl) ?_
    refine x_get (pc := 66) X V okX13 ht1 0 (by decide) q1019 (v := .int (I x0 0)) rfl dX13_of_66 ?_
    refine lv_bipush (pc := 69) (v := (ii 45)) hx hb dX13_of_69 (by decide) ?_
    refine lv_icmp_ne (pc := 71) (tgt := 81) hx hb dX13_of_71 (by decide) (fun c3 => ?_) (fun c3 => ?_)
    · replace hf := if_f hf c3
      refine lv_aload_n (pc := 81) hx hb dX13_of_81 rfl (lv_at hl 0 rfl) ?_
      refine x_get (pc := 82) X V okX13 ht1 0 (by decide) q1019 (v := .int (I x0 0)) rfl dX13_of_82 ?_
      refine lv_bipush (pc := 85) (v := (ii 42)) hx hb dX13_of_85 (by decide) ?_
      refine lv_icmp_ne (pc := 87) (tgt := 97) hx hb dX13_of_87 (by decide) (fun c4 => ?_) (fun c4 => ?_)
      · replace hf := if_f hf c4
        refine lv_aload_n (pc := 97) hx hb dX13_of_97 rfl (lv_at hl 0 rfl) ?_
        refine x_get (pc := 98) X V okX13 ht1 0 (by decide) q1019 (v := .int (I x0 0)) rfl dX13_of_98 ?_
        refine lv_bipush (pc := 101) (v := (ii 47)) hx hb dX13_of_101 (by decide) ?_
        refine lv_icmp_ne (pc := 103) (tgt := 113) hx hb dX13_of_103 (by decide) (fun c5 => ?_) (fun c5 => ?_)
        · replace hf := if_f hf c5
          refine lv_lload_n (pc := 113) hx hb dX13_of_113 rfl (lv_at hl 2 rfl) ?_
          refine lv_lload (pc := 114) hx hb dX13_of_114 (lv_at hl 3 rfl) ?_
          replace hf := chk_s hf; obtain ⟨hc6, hf⟩ := hf
          refine lv_lrem (pc := 116) hx hb dX13_of_116 (of_decide_eq_true hc6) ?_
          exact wX13_of_b117 X hr htE hrc hf V (lv_sub hl [1] rfl)
        · replace hf := if_t hf c5
          refine lv_lload_n (pc := 106) hx hb dX13_of_106 rfl (lv_at hl 2 rfl) ?_
          refine lv_lload (pc := 107) hx hb dX13_of_107 (lv_at hl 3 rfl) ?_
          replace hf := chk_s hf; obtain ⟨hc7, hf⟩ := hf
          refine lv_ldiv (pc := 109) hx hb dX13_of_109 (of_decide_eq_true hc7) ?_
          refine lv_goto (pc := 110) (tgt := 117) hx hb dX13_of_110 (by decide) ?_
          exact wX13_of_b117 X hr htE hrc hf V (lv_sub hl [1] rfl)
      · replace hf := if_t hf c4
        refine lv_lload_n (pc := 90) hx hb dX13_of_90 rfl (lv_at hl 2 rfl) ?_
        refine lv_lload (pc := 91) hx hb dX13_of_91 (lv_at hl 3 rfl) ?_
        refine lv_lmul (pc := 93) hx hb dX13_of_93 ?_
        refine lv_goto (pc := 94) (tgt := 117) hx hb dX13_of_94 (by decide) ?_
        exact wX13_of_b117 X hr htE hrc hf V (lv_sub hl [1] rfl)
    · replace hf := if_t hf c3
      refine lv_lload_n (pc := 74) hx hb dX13_of_74 rfl (lv_at hl 2 rfl) ?_
      refine lv_lload (pc := 75) hx hb dX13_of_75 (lv_at hl 3 rfl) ?_
      refine lv_lsub (pc := 77) hx hb dX13_of_77 ?_
      refine lv_goto (pc := 78) (tgt := 117) hx hb dX13_of_78 (by decide) ?_
      exact wX13_of_b117 X hr htE hrc hf V (lv_sub hl [1] rfl)
  · replace hf := if_t hf c2
    refine lv_lload_n (pc := 58) hx hb dX13_of_58 rfl (lv_at hl 2 rfl) ?_
    refine lv_lload (pc := 59) hx hb dX13_of_59 (lv_at hl 3 rfl) ?_
    refine lv_ladd (pc := 61) hx hb dX13_of_61 ?_
    refine lv_goto (pc := 62) (tgt := 117) hx hb dX13_of_62 (by decide) ?_
    exact wX13_of_b117 X hr htE hrc hf V (lv_sub hl [1] rfl)
set_option maxHeartbeats 400000 in
set_option maxRecDepth 100000 in
theorem wX13_of_b37 {fd ld : Nat} {rc : xT → xT → xI → xL → xR → Nat → Nat → Option ((Nat ⊕ Int64))} {p : Program} {l : Launch} {e : Env} {s : State} {m : MethodId} {args : Array Value} {below : List Frame} {meth : Method} {c : Code} {D : va_G} {dA : Nat → ClassId} {s0 : Nat} {T : xT} {N : xT} {Z : Nat} {I : xI} {L : xL} {R : xR} {H : Heap} {locs : List Loc} {ls : Array Slot}  {x0 : Nat} {x1 : Nat} {x2 : Int64} {x4 : Int64} {ro : (Nat ⊕ Int64)} (X : Cx D dA s0 p m c cX13_of 8 s args RX13 meth) (hr : meth.sig.returnType = (some .long)) (htE : c.exceptionTable.toList = []) (hrc : Run_Sum_of l D dA s0 fd ld rc)   (hf : fX13_of_b37 rc T N I L R x0 x1 x2 x4 = some ro) (V : Iv D dA s0 s T N Z I L R H locs) (hl : lv_has ls 8 [(0, .ref x0), (1, .ref x1), (2, .long x2), (4, .long x4)]) : W p l e { frames := fd + 1, cells := 0, slots := 0, locals := ld + 60 } s m args below meth c H locs 0 0 (vx_MQ below (yQ D dA s0 (rL ro) T N Z I L R) (yX D dA s0 (rL ro) T N Z I L R) args s 0 0 (fun q => s0 ≤ q)) (F0 m 37 ls []) := by
  have hx := X.1.1
  have hb := X.1.2.1
  unfold fX13_of_b37 at hf
  refine lv_lload (pc := 37) hx hb dX13_of_37 (lv_at hl 3 rfl) ?_
  refine lv_lconst (pc := 39) (v := (jj 0)) hx hb dX13_of_39 (by decide) ?_
  refine lc_ne (pc := 40) (tgt := 49) hx hb dX13_of_40 dX13_of_41 (by decide) (fun c1 => ?_) (fun c1 => ?_)
  · replace hf := if_f hf c1
    exact wX13_of_b49 X hr htE hrc hf V (lv_sub hl [0, 1, 2, 3] rfl)
  · replace hf := if_t hf c1
    refine lv_aload_n (pc := 44) hx hb dX13_of_44 rfl (lv_at hl 1 rfl) ?_
    replace hf := tg_s hf; obtain ⟨ht2, hf⟩ := hf
    replace hf := bs hf; obtain ⟨a3, ha3, hf⟩ := hf
    refine x_getN (pc := 45) X V okX3 ht2 0 (by decide) q350 (v := va_rf (R x1 0)) rfl dX13_of_45 ?_
    refine x_topr ha3 ?_
    replace hf := tg_s hf; obtain ⟨ht4, hf⟩ := hf
    refine vx_athrow (pc := 48) hx hb dX13_of_48 ?_
    cases hf
    exact y_out X V htE okX4 ht4 (Nat.zero_le _) (Nat.zero_le _)
set_option maxHeartbeats 400000 in
set_option maxRecDepth 100000 in
theorem wX13_of_e {fd ld : Nat} {rc : xT → xT → xI → xL → xR → Nat → Nat → Option ((Nat ⊕ Int64))} {p : Program} {l : Launch} {e : Env} {s : State} {m : MethodId} {args : Array Value} {below : List Frame} {meth : Method} {c : Code} {D : va_G} {dA : Nat → ClassId} {s0 : Nat} {T : xT} {N : xT} {Z : Nat} {I : xI} {L : xL} {R : xR} {H : Heap} {locs : List Loc} {ls : Array Slot} {x0 : Nat} {x1 : Nat} {ro : (Nat ⊕ Int64)} (X : Cx D dA s0 p m c cX13_of 8 s args RX13 meth) (hr : meth.sig.returnType = (some .long)) (htE : c.exceptionTable.toList = []) (hrc : Run_Sum_of l D dA s0 fd ld rc) (hf : fX13_of rc T N I L R x0 x1 = some ro) (V : Iv D dA s0 s T N Z I L R H locs) (hl : lv_has ls 8 [(0, .ref x0), (1, .ref x1)]) : W p l e { frames := fd + 1, cells := 0, slots := 0, locals := ld + 60 } s m args below meth c H locs 0 0 (vx_MQ below (yQ D dA s0 (rL ro) T N Z I L R) (yX D dA s0 (rL ro) T N Z I L R) args s 0 0 (fun q => s0 ≤ q)) (F0 m 0 ls []) := by
  have hx := X.1.1
  have hb := X.1.2.1
  unfold fX13_of at hf
  refine lv_aload_n (pc := 0) hx hb dX13_of_0 rfl (lv_at hl 0 rfl) ?_
  replace hf := tg_s hf; obtain ⟨ht1, hf⟩ := hf
  replace hf := bs hf; obtain ⟨a2, ha2, hf⟩ := hf
  refine x_get (pc := 1) X V okX13 ht1 1 (by decide) q1020 (v := va_rf (R x0 1)) rfl dX13_of_1 ?_
  refine x_topr ha2 ?_
  refine lv_aload_n (pc := 4) hx hb dX13_of_4 rfl (lv_at hl 1 rfl) ?_
  replace hf := bs hf; obtain ⟨r3, hk_4, hf⟩ := hf
  replace hf := xc_s hf; rcases hf with ⟨a5, hr_7, hf⟩ | ⟨v6, hr_7, hf⟩
  · rw [hr_7] at hk_4
    replace hf := tg_s hf; obtain ⟨ht8, hf⟩ := hf
    refine y_afterX (hrc (pc := 5) (rest := []) X V hk_4 q648 ⟨by dsimp only; omega, by dsimp only; omega⟩ hl.1 (Nat.le_of_ble_eq_true rfl) dX13_of_5 ⟨Nat.zero_le _, Nat.zero_le _⟩) V (fun H locs V => ?_)
    cases hf
    exact y_out X V htE okX4 ht8 (Nat.zero_le _) (Nat.zero_le _)
  · rw [hr_7] at hk_4
    refine y_afterR (hrc (pc := 5) (rest := []) X V hk_4 q648 ⟨by dsimp only; omega, by dsimp only; omega⟩ hl.1 (Nat.le_of_ble_eq_true rfl) dX13_of_5 ⟨Nat.zero_le _, Nat.zero_le _⟩) V (fun H locs V => W.eq (g2 := F0 m 8 ls [.long v6]) rfl ?_)
    refine lv_lstore_n (pc := 8) (lv' := [(2, .long v6), (0, .ref x0), (1, .ref x1)]) hx hb dX13_of_8 rfl hl (by decide) rfl (fun ls hl => ?_)
    refine lv_aload_n (pc := 9) hx hb dX13_of_9 rfl (lv_at hl 1 rfl) ?_
    replace hf := bs hf; obtain ⟨a9, ha9, hf⟩ := hf
    refine x_get (pc := 10) X V okX13 ht1 2 (by decide) q1021 (v := va_rf (R x0 2)) rfl dX13_of_10 ?_
    refine x_topr ha9 ?_
    refine lv_aload_n (pc := 13) hx hb dX13_of_13 rfl (lv_at hl 2 rfl) ?_
    replace hf := bs hf; obtain ⟨r10, hk_11, hf⟩ := hf
    replace hf := xc_s hf; rcases hf with ⟨a12, hr_14, hf⟩ | ⟨v13, hr_14, hf⟩
    · rw [hr_14] at hk_11
      replace hf := tg_s hf; obtain ⟨ht15, hf⟩ := hf
      refine y_afterX (hrc (pc := 14) (rest := []) X V hk_11 q648 ⟨by dsimp only; omega, by dsimp only; omega⟩ hl.1 (Nat.le_of_ble_eq_true rfl) dX13_of_14 ⟨Nat.zero_le _, Nat.zero_le _⟩) V (fun H locs V => ?_)
      cases hf
      exact y_out X V htE okX4 ht15 (Nat.zero_le _) (Nat.zero_le _)
    · rw [hr_14] at hk_11
      refine y_afterR (hrc (pc := 14) (rest := []) X V hk_11 q648 ⟨by dsimp only; omega, by dsimp only; omega⟩ hl.1 (Nat.le_of_ble_eq_true rfl) dX13_of_14 ⟨Nat.zero_le _, Nat.zero_le _⟩) V (fun H locs V => W.eq (g2 := F0 m 17 ls [.long v13]) rfl ?_)
      refine lv_lstore (pc := 17) (lv' := [(4, .long v13), (2, .long v6), (0, .ref x0), (1, .ref x1)]) hx hb dX13_of_17 hl (by decide) rfl (fun ls hl => ?_)
      refine lv_aload_n (pc := 19) hx hb dX13_of_19 rfl (lv_at hl 2 rfl) ?_
      refine x_get (pc := 20) X V okX13 ht1 0 (by decide) q1019 (v := .int (I x0 0)) rfl dX13_of_20 ?_
      refine lv_bipush (pc := 23) (v := (ii 47)) hx hb dX13_of_23 (by decide) ?_
      refine lv_icmp_eq (pc := 25) (tgt := 37) hx hb dX13_of_25 (by decide) (fun c16 => ?_) (fun c16 => ?_)
      · replace hf := if_t hf c16
        exact wX13_of_b37 X hr htE hrc hf V (lv_sub hl [2, 3, 1, 0] rfl)
      · replace hf := if_f hf c16
        refine lv_aload_n (pc := 28) hx hb dX13_of_28 rfl (lv_at hl 2 rfl) ?_
        refine x_get (pc := 29) X V okX13 ht1 0 (by decide) q1019 (v := .int (I x0 0)) rfl dX13_of_29 ?_
        refine lv_bipush (pc := 32) (v := (ii 37)) hx hb dX13_of_32 (by decide) ?_
        refine lv_icmp_ne (pc := 34) (tgt := 49) hx hb dX13_of_34 (by decide) (fun c17 => ?_) (fun c17 => ?_)
        · replace hf := if_f hf c17
          exact wX13_of_b49 X hr htE hrc hf V (lv_sub hl [2, 3, 1, 0] rfl)
        · replace hf := if_t hf c17
          exact wX13_of_b37 X hr htE hrc hf V (lv_sub hl [2, 3, 1, 0] rfl)
theorem mX13_of {fd ld : Nat} {rc : xT → xT → xI → xL → xR → Nat → Nat → Option ((Nat ⊕ Int64))} (l : Launch) (D : va_G) (dA : Nat → ClassId) (s0 : Nat) {T : xT} {N : xT} {Z : Nat} {I : xI} {L : xL} {R : xR} {x0 : Nat} {x1 : Nat} {ro : (Nat ⊕ Int64)} (hrc : Run_Sum_of l D dA s0 fd ld rc) (hf : fX13_of rc T N I L R x0 x1 = some ro) : YMet l D dA s0 yX13_of (ws_ yX13_of cX13_of 8 ((some .long))) (fd + 1) (ld + 60) [.ref x0, .ref x1] T N Z I L R (rL ro) T N Z I L R 0 0 :=
  y_start (own := RX13) rfl (by decide) (Nat.le_of_ble_eq_true rfl) (lv := [(0, .ref x0), (1, .ref x1)]) rfl (fun p e s m below meth c ls X hr htE V hl => wX13_of_e X hr htE hrc hf V hl)
theorem hu_Sum_of : "LostLanes$Sum" ≠ "java/lang/invoke/MethodHandle" ∧ "LostLanes$Sum" ≠ "java/lang/invoke/VarHandle" ∧ (parseMethodDescriptor "(LLostLanes$Setting;)J").map (fun d => d.parameters.length) = some 1 := by decide +kernel
set_option maxHeartbeats 400000 in
set_option maxRecDepth 100000 in
theorem run_Sum_of (l : Launch) (D : va_G) (dA : Nat → ClassId) (s0 : Nat) (d : Nat) : Run_Sum_of l D dA s0 (2 + 1 * d) (120 + 87 * d) (fSum_of d) := by
  induction d with
  | zero =>
    intro p e Rm s m args below meth c H locs cells slots cc pc nL ls rest own T N Z I L R a b index r X V hf hq hR hsz hW hdg hc
    exact absurd (show none = some _ from hf) (fun q => nomatch q)
  | succ d ih =>
    intro p e Rm s m args below meth c H locs cells slots cc pc nL ls rest own T N Z I L R a b index r X V hf hq hR hsz hW hdg hc
    obtain ⟨hR1, hR2⟩ := hR
    rw [fSum_of] at hf
    by_cases c0 : T a = 10
    · have hf := if_t hf c0
      obtain ⟨v, hv, hf⟩ := bs hf
      cases hf
      exact y_runA (As := [.ref b]) X V (mX11_of l D dA s0 hv).y okX11 c0 hq q641 q642 q643 q141 q644 q640 hu_Sum_of ⟨by omega, by omega⟩ rfl hsz rfl hW hdg hc
    have hf := if_f hf c0
    by_cases c1 : T a = 11
    · have hf := if_t hf c1
      obtain ⟨v, hv, hf⟩ := bs hf
      cases hf
      exact y_runA (As := [.ref b]) X V (mX12_of l D dA s0 hv).y okX12 c1 hq q641 q653 q649 q142 q650 q640 hu_Sum_of ⟨by omega, by omega⟩ rfl hsz rfl hW hdg hc
    have hf := if_f hf c1
    by_cases c2 : T a = 12
    · have hf := if_t hf c2
      exact y_runA (As := [.ref b]) X V (mX13_of l D dA s0 ih hf) okX13 c2 hq q641 q645 q646 q143 q647 q640 hu_Sum_of ⟨by omega, by omega⟩ rfl hsz rfl hW hdg hc
    have hf := if_f hf c2
    cases hf
set_option maxHeartbeats 400000 in
set_option maxRecDepth 100000 in
theorem wX15_is_e {p : Program} {l : Launch} {e : Env} {s : State} {m : MethodId} {args : Array Value} {below : List Frame} {meth : Method} {c : Code} {D : va_G} {dA : Nat → ClassId} {s0 : Nat} {T : xT} {N : xT} {Z : Nat} {I : xI} {L : xL} {R : xR} {H : Heap} {locs : List Loc} {ls : Array Slot} {x0 : Nat} {x1 : Nat} {ro : (Nat ⊕ Int32)} (X : Cx D dA s0 p m c cX15_is 6 s args RX15 meth) (hr : meth.sig.returnType = (some .boolean)) (htE : c.exceptionTable.toList = []) (hf : fX15_is T N I L R x0 x1 = some ro) (V : Iv D dA s0 s T N Z I L R H locs) (hl : lv_has ls 6 [(0, .ref x0), (1, .ref x1)]) : W p l e { frames := 67, cells := 0, slots := 0, locals := 5748 } s m args below meth c H locs 0 0 (vx_MQ below (yQ D dA s0 (rI ro) T N Z I L R) (yX D dA s0 (rI ro) T N Z I L R) args s 0 0 (fun q => s0 ≤ q)) (F0 m 0 ls []) := by
  have hx := X.1.1
  have hb := X.1.2.1
  unfold fX15_is at hf
  refine lv_aload_n (pc := 0) hx hb dX15_is_0 rfl (lv_at hl 0 rfl) ?_
  replace hf := tg_s hf; obtain ⟨ht1, hf⟩ := hf
  replace hf := bs hf; obtain ⟨a2, ha2, hf⟩ := hf
  refine x_get (pc := 1) X V okX15 ht1 1 (by decide) q1077 (v := va_rf (R x0 1)) rfl dX15_is_1 ?_
  refine x_topr ha2 ?_
  refine lv_aload_n (pc := 4) hx hb dX15_is_4 rfl (lv_at hl 1 rfl) ?_
  replace hf := bs hf; obtain ⟨r3, hk_4, hf⟩ := hf
  replace hf := xc_s hf; rcases hf with ⟨a5, hr_7, hf⟩ | ⟨v6, hr_7, hf⟩
  · rw [hr_7] at hk_4
    replace hf := tg_s hf; obtain ⟨ht8, hf⟩ := hf
    refine y_afterX (run_Sum_of l D dA s0 64 (pc := 5) (rest := []) X V hk_4 q639 ⟨Nat.le_of_ble_eq_true rfl, Nat.le_of_ble_eq_true rfl⟩ hl.1 (Nat.le_of_ble_eq_true rfl) dX15_is_5 ⟨Nat.zero_le _, Nat.zero_le _⟩) V (fun H locs V => ?_)
    cases hf
    exact y_out X V htE okX4 ht8 (Nat.zero_le _) (Nat.zero_le _)
  · rw [hr_7] at hk_4
    refine y_afterR (run_Sum_of l D dA s0 64 (pc := 5) (rest := []) X V hk_4 q639 ⟨Nat.le_of_ble_eq_true rfl, Nat.le_of_ble_eq_true rfl⟩ hl.1 (Nat.le_of_ble_eq_true rfl) dX15_is_5 ⟨Nat.zero_le _, Nat.zero_le _⟩) V (fun H locs V => W.eq (g2 := F0 m 8 ls [.long v6]) rfl ?_)
    refine lv_lstore_n (pc := 8) (lv' := [(2, .long v6), (0, .ref x0), (1, .ref x1)]) hx hb dX15_is_8 rfl hl (by decide) rfl (fun ls hl => ?_)
    refine lv_aload_n (pc := 9) hx hb dX15_is_9 rfl (lv_at hl 1 rfl) ?_
    replace hf := bs hf; obtain ⟨a9, ha9, hf⟩ := hf
    refine x_get (pc := 10) X V okX15 ht1 2 (by decide) q1078 (v := va_rf (R x0 2)) rfl dX15_is_10 ?_
    refine x_topr ha9 ?_
    refine lv_aload_n (pc := 13) hx hb dX15_is_13 rfl (lv_at hl 2 rfl) ?_
    replace hf := bs hf; obtain ⟨r10, hk_11, hf⟩ := hf
    replace hf := xc_s hf; rcases hf with ⟨a12, hr_14, hf⟩ | ⟨v13, hr_14, hf⟩
    · rw [hr_14] at hk_11
      replace hf := tg_s hf; obtain ⟨ht15, hf⟩ := hf
      refine y_afterX (run_Sum_of l D dA s0 64 (pc := 14) (rest := []) X V hk_11 q639 ⟨Nat.le_of_ble_eq_true rfl, Nat.le_of_ble_eq_true rfl⟩ hl.1 (Nat.le_of_ble_eq_true rfl) dX15_is_14 ⟨Nat.zero_le _, Nat.zero_le _⟩) V (fun H locs V => ?_)
      cases hf
      exact y_out X V htE okX4 ht15 (Nat.zero_le _) (Nat.zero_le _)
    · rw [hr_14] at hk_11
      refine y_afterR (run_Sum_of l D dA s0 64 (pc := 14) (rest := []) X V hk_11 q639 ⟨Nat.le_of_ble_eq_true rfl, Nat.le_of_ble_eq_true rfl⟩ hl.1 (Nat.le_of_ble_eq_true rfl) dX15_is_14 ⟨Nat.zero_le _, Nat.zero_le _⟩) V (fun H locs V => W.eq (g2 := F0 m 17 ls [.long v13]) rfl ?_)
      refine lv_lstore (pc := 17) (lv' := [(4, .long v13), (2, .long v6), (0, .ref x0), (1, .ref x1)]) hx hb dX15_is_17 hl (by decide) rfl (fun ls hl => ?_)
      refine lv_aload_n (pc := 19) hx hb dX15_is_19 rfl (lv_at hl 2 rfl) ?_
      refine x_get (pc := 20) X V okX15 ht1 0 (by decide) q1076 (v := .int (I x0 0)) rfl dX15_is_20 ?_
      refine lv_bipush (pc := 23) (v := (ii 60)) hx hb dX15_is_23 (by decide) ?_
      refine lv_icmp_ne (pc := 25) (tgt := 43) hx hb dX15_is_25 (by decide) (fun c16 => ?_) (fun c16 => ?_)
      · replace hf := if_f hf c16
        refine lv_aload_n (pc := 43) hx hb dX15_is_43 rfl (lv_at hl 2 rfl) ?_
        refine x_get (pc := 44) X V okX15 ht1 0 (by decide) q1076 (v := .int (I x0 0)) rfl dX15_is_44 ?_
        refine lv_bipush (pc := 47) (v := (ii 62)) hx hb dX15_is_47 (by decide) ?_
        refine lv_icmp_ne (pc := 49) (tgt := 67) hx hb dX15_is_49 (by decide) (fun c17 => ?_) (fun c17 => ?_)
        · replace hf := if_f hf c17
          refine lv_lload_n (pc := 67) hx hb dX15_is_67 rfl (lv_at hl 1 rfl) ?_
          refine lv_lload (pc := 68) hx hb dX15_is_68 (lv_at hl 0 rfl) ?_
          refine lc_ne (pc := 70) (tgt := 78) hx hb dX15_is_70 dX15_is_71 (by decide) (fun c18 => ?_) (fun c18 => ?_)
          · replace hf := if_f hf c18
            refine lv_iconst (pc := 78) (v := (ii 0)) hx hb dX15_is_78 (by decide) ?_
            cases hf
            exact y_zret (pc := 79) X V hr (Nat.zero_le _) (Nat.zero_le _) (by decide) dX15_is_79
          · replace hf := if_t hf c18
            refine lv_iconst (pc := 74) (v := (ii 1)) hx hb dX15_is_74 (by decide) ?_
            refine lv_goto (pc := 75) (tgt := 79) hx hb dX15_is_75 (by decide) ?_
            cases hf
            exact y_zret (pc := 79) X V hr (Nat.zero_le _) (Nat.zero_le _) (by decide) dX15_is_79
        · replace hf := if_t hf c17
          refine lv_lload_n (pc := 52) hx hb dX15_is_52 rfl (lv_at hl 1 rfl) ?_
          refine lv_lload (pc := 53) hx hb dX15_is_53 (lv_at hl 0 rfl) ?_
          refine lc_le (pc := 55) (tgt := 63) hx hb dX15_is_55 dX15_is_56 (by decide) (fun c19 => ?_) (fun c19 => ?_)
          · replace hf := if_t hf c19
            refine lv_iconst (pc := 63) (v := (ii 0)) hx hb dX15_is_63 (by decide) ?_
            refine lv_goto (pc := 64) (tgt := 79) hx hb dX15_is_64 (by decide) ?_
            cases hf
            exact y_zret (pc := 79) X V hr (Nat.zero_le _) (Nat.zero_le _) (by decide) dX15_is_79
          · replace hf := if_f hf c19
            refine lv_iconst (pc := 59) (v := (ii 1)) hx hb dX15_is_59 (by decide) ?_
            refine lv_goto (pc := 60) (tgt := 79) hx hb dX15_is_60 (by decide) ?_
            cases hf
            exact y_zret (pc := 79) X V hr (Nat.zero_le _) (Nat.zero_le _) (by decide) dX15_is_79
      · replace hf := if_t hf c16
        refine lv_lload_n (pc := 28) hx hb dX15_is_28 rfl (lv_at hl 1 rfl) ?_
        refine lv_lload (pc := 29) hx hb dX15_is_29 (lv_at hl 0 rfl) ?_
        refine lc_ge (pc := 31) (tgt := 39) hx hb dX15_is_31 dX15_is_32 (by decide) (fun c20 => ?_) (fun c20 => ?_)
        · replace hf := if_t hf c20
          refine lv_iconst (pc := 39) (v := (ii 0)) hx hb dX15_is_39 (by decide) ?_
          refine lv_goto (pc := 40) (tgt := 79) hx hb dX15_is_40 (by decide) ?_
          cases hf
          exact y_zret (pc := 79) X V hr (Nat.zero_le _) (Nat.zero_le _) (by decide) dX15_is_79
        · replace hf := if_f hf c20
          refine lv_iconst (pc := 35) (v := (ii 1)) hx hb dX15_is_35 (by decide) ?_
          refine lv_goto (pc := 36) (tgt := 79) hx hb dX15_is_36 (by decide) ?_
          cases hf
          exact y_zret (pc := 79) X V hr (Nat.zero_le _) (Nat.zero_le _) (by decide) dX15_is_79
theorem mX15_is (l : Launch) (D : va_G) (dA : Nat → ClassId) (s0 : Nat) {T : xT} {N : xT} {Z : Nat} {I : xI} {L : xL} {R : xR} {x0 : Nat} {x1 : Nat} {ro : (Nat ⊕ Int32)} (hf : fX15_is T N I L R x0 x1 = some ro) : YMet l D dA s0 yX15_is (ws_ yX15_is cX15_is 6 ((some .boolean))) (67) (5748) [.ref x0, .ref x1] T N Z I L R (rI ro) T N Z I L R 0 0 :=
  y_start (own := RX15) rfl (by decide) (Nat.le_of_ble_eq_true rfl) (lv := [(0, .ref x0), (1, .ref x1)]) rfl (fun p e s m below meth c ls X hr htE V hl => wX15_is_e X hr htE hf V hl)
set_option maxHeartbeats 400000 in
set_option maxRecDepth 100000 in
theorem wX16_is_e {fd ld : Nat} {rc : xT → xT → xI → xL → xR → Nat → Nat → Option ((Nat ⊕ Int32))} {p : Program} {l : Launch} {e : Env} {s : State} {m : MethodId} {args : Array Value} {below : List Frame} {meth : Method} {c : Code} {D : va_G} {dA : Nat → ClassId} {s0 : Nat} {T : xT} {N : xT} {Z : Nat} {I : xI} {L : xL} {R : xR} {H : Heap} {locs : List Loc} {ls : Array Slot} {x0 : Nat} {x1 : Nat} {ro : (Nat ⊕ Int32)} (X : Cx D dA s0 p m c cX16_is 2 s args RX16 meth) (hr : meth.sig.returnType = (some .boolean)) (htE : c.exceptionTable.toList = []) (hrc : Run_Test_is l D dA s0 fd ld rc) (hf : fX16_is rc T N I L R x0 x1 = some ro) (V : Iv D dA s0 s T N Z I L R H locs) (hl : lv_has ls 2 [(0, .ref x0), (1, .ref x1)]) : W p l e { frames := fd + 1, cells := 0, slots := 0, locals := ld + 60 } s m args below meth c H locs 0 0 (vx_MQ below (yQ D dA s0 (rI ro) T N Z I L R) (yX D dA s0 (rI ro) T N Z I L R) args s 0 0 (fun q => s0 ≤ q)) (F0 m 0 ls []) := by
  have hx := X.1.1
  have hb := X.1.2.1
  unfold fX16_is at hf
  refine lv_aload_n (pc := 0) hx hb dX16_is_0 rfl (lv_at hl 0 rfl) ?_
  replace hf := tg_s hf; obtain ⟨ht1, hf⟩ := hf
  replace hf := bs hf; obtain ⟨a2, ha2, hf⟩ := hf
  refine x_get (pc := 1) X V okX16 ht1 0 (by decide) q1092 (v := va_rf (R x0 0)) rfl dX16_is_1 ?_
  refine x_topr ha2 ?_
  refine lv_aload_n (pc := 4) hx hb dX16_is_4 rfl (lv_at hl 1 rfl) ?_
  replace hf := bs hf; obtain ⟨r3, hk_4, hf⟩ := hf
  replace hf := xc_s hf; rcases hf with ⟨a5, hr_7, hf⟩ | ⟨v6, hr_7, hf⟩
  · rw [hr_7] at hk_4
    replace hf := tg_s hf; obtain ⟨ht8, hf⟩ := hf
    refine y_afterX (hrc (pc := 5) (rest := []) X V hk_4 q657 ⟨by dsimp only; omega, by dsimp only; omega⟩ hl.1 (Nat.le_of_ble_eq_true rfl) dX16_is_5 ⟨Nat.zero_le _, Nat.zero_le _⟩) V (fun H locs V => ?_)
    cases hf
    exact y_out X V htE okX4 ht8 (Nat.zero_le _) (Nat.zero_le _)
  · rw [hr_7] at hk_4
    refine y_afterR (hrc (pc := 5) (rest := []) X V hk_4 q657 ⟨by dsimp only; omega, by dsimp only; omega⟩ hl.1 (Nat.le_of_ble_eq_true rfl) dX16_is_5 ⟨Nat.zero_le _, Nat.zero_le _⟩) V (fun H locs V => W.eq (g2 := F0 m 8 ls [.int v6]) rfl ?_)
    refine lv_if_ne (pc := 8) (tgt := 15) hx hb dX16_is_8 (by decide) (fun c9 => ?_) (fun c9 => ?_)
    · replace hf := if_f hf c9
      refine lv_iconst (pc := 15) (v := (ii 0)) hx hb dX16_is_15 (by decide) ?_
      cases hf
      exact y_zret (pc := 16) X V hr (Nat.zero_le _) (Nat.zero_le _) (by decide) dX16_is_16
    · replace hf := if_t hf c9
      refine lv_iconst (pc := 11) (v := (ii 1)) hx hb dX16_is_11 (by decide) ?_
      refine lv_goto (pc := 12) (tgt := 16) hx hb dX16_is_12 (by decide) ?_
      cases hf
      exact y_zret (pc := 16) X V hr (Nat.zero_le _) (Nat.zero_le _) (by decide) dX16_is_16
theorem mX16_is {fd ld : Nat} {rc : xT → xT → xI → xL → xR → Nat → Nat → Option ((Nat ⊕ Int32))} (l : Launch) (D : va_G) (dA : Nat → ClassId) (s0 : Nat) {T : xT} {N : xT} {Z : Nat} {I : xI} {L : xL} {R : xR} {x0 : Nat} {x1 : Nat} {ro : (Nat ⊕ Int32)} (hrc : Run_Test_is l D dA s0 fd ld rc) (hf : fX16_is rc T N I L R x0 x1 = some ro) : YMet l D dA s0 yX16_is (ws_ yX16_is cX16_is 2 ((some .boolean))) (fd + 1) (ld + 60) [.ref x0, .ref x1] T N Z I L R (rI ro) T N Z I L R 0 0 :=
  y_start (own := RX16) rfl (by decide) (Nat.le_of_ble_eq_true rfl) (lv := [(0, .ref x0), (1, .ref x1)]) rfl (fun p e s m below meth c ls X hr htE V hl => wX16_is_e X hr htE hrc hf V hl)
set_option maxHeartbeats 400000 in
set_option maxRecDepth 100000 in
theorem wJ2_size_e {p : Program} {l : Launch} {e : Env} {s : State} {m : MethodId} {args : Array Value} {below : List Frame} {meth : Method} {c : Code} {D : va_G} {dA : Nat → ClassId} {s0 : Nat} {T : xT} {N : xT} {Z : Nat} {I : xI} {L : xL} {R : xR} {H : Heap} {locs : List Loc} {ls : Array Slot} {x0 : Nat} {ro : Int32} (X : Cx D dA s0 p m c cJ2_size 1 s args RJ2 meth) (hr : meth.sig.returnType = (some .int)) (hf : fJ2_size T I x0 = some ro) (V : Iv D dA s0 s T N Z I L R H locs) (hl : lv_has ls 1 [(0, .ref x0)]) : W p l e { frames := 0, cells := 0, slots := 0, locals := 0 } s m args below meth c H locs 0 0 (MQ below (xQ D dA s0 (some (.int ro)) T N Z I L R) args s 0 0 (fun q => s0 ≤ q)) (F0 m 0 ls []) := by
  have hx := X.1.1
  have hb := X.1.2.1
  unfold fJ2_size at hf
  refine lv_aload_n (pc := 0) hx hb dJ2_size_0 rfl (lv_at hl 0 rfl) ?_
  replace hf := tg_s hf; obtain ⟨ht1, hf⟩ := hf
  refine x_get (pc := 1) X V okJ2 ht1 2 (by decide) q210 (v := .int (I x0 2)) rfl dJ2_size_1 ?_
  cases hf
  exact x_iret (pc := 4) X V hr dJ2_size_4
theorem mJ2_size (l : Launch) (D : va_G) (dA : Nat → ClassId) (s0 : Nat) {T : xT} {N : xT} {Z : Nat} {I : xI} {L : xL} {R : xR} {x0 : Nat} {ro : Int32} (hf : fJ2_size T I x0 = some ro) : XMet l D dA s0 yJ2_size (ws_ yJ2_size cJ2_size 1 ((some .int))) (0) (0) [.ref x0] T N Z I L R (some (.int ro)) T N Z I L R 0 0 :=
  x_start (own := RJ2) rfl (by decide) (Nat.le_of_ble_eq_true rfl) (lv := [(0, .ref x0)]) rfl (fun p e s m below meth c ls X hr hini V hl => wJ2_size_e X hr hf V hl)
set_option maxHeartbeats 400000 in
set_option maxRecDepth 100000 in
theorem wJ6_checkIndex_n3_e {p : Program} {l : Launch} {e : Env} {s : State} {m : MethodId} {args : Array Value} {below : List Frame} {meth : Method} {c : Code} {D : va_G} {dA : Nat → ClassId} {s0 : Nat} {T : xT} {N : xT} {Z : Nat} {I : xI} {L : xL} {R : xR} {H : Heap} {locs : List Loc} {ls : Array Slot} {x0 : Int32} {x1 : Int32} {ro : Int32} (X : Cx D dA s0 p m c cJ6_checkIndex 3 s args RJ6 meth) (hr : meth.sig.returnType = (some .int)) (hf : fJ6_checkIndex_n3 x0 x1 = some ro) (V : Iv D dA s0 s T N Z I L R H locs) (hl : lv_has ls 3 [(0, .int x0), (1, .int x1), (2, .null)]) : W p l e { frames := 0, cells := 0, slots := 0, locals := 0 } s m args below meth c H locs 0 0 (MQ below (xQ D dA s0 (some (.int ro)) T N Z I L R) args s 0 0 (fun q => s0 ≤ q)) (F0 m 0 ls []) := by
  have hx := X.1.1
  have hb := X.1.2.1
  unfold fJ6_checkIndex_n3 at hf
  refine lv_iload_n (pc := 0) hx hb dJ6_checkIndex_0 rfl (lv_at hl 0 rfl) ?_
  refine lv_if_lt (pc := 1) (tgt := 9) hx hb dJ6_checkIndex_1 (by decide) (fun c1 => ?_) (fun c1 => ?_)
  · replace hf := if_t hf c1
    refine lv_aload_nN (pc := 9) hx hb dJ6_checkIndex_9 rfl (lv_at hl 2 rfl) ?_
    refine lv_iload_n (pc := 10) hx hb dJ6_checkIndex_10 rfl (lv_at hl 0 rfl) ?_
    refine lv_iload_n (pc := 11) hx hb dJ6_checkIndex_11 rfl (lv_at hl 1 rfl) ?_
    cases hf
  · replace hf := if_f hf c1
    refine lv_iload_n (pc := 4) hx hb dJ6_checkIndex_4 rfl (lv_at hl 0 rfl) ?_
    refine lv_iload_n (pc := 5) hx hb dJ6_checkIndex_5 rfl (lv_at hl 1 rfl) ?_
    refine lv_icmp_lt (pc := 6) (tgt := 16) hx hb dJ6_checkIndex_6 (by decide) (fun c2 => ?_) (fun c2 => ?_)
    · replace hf := if_t hf c2
      refine lv_iload_n (pc := 16) hx hb dJ6_checkIndex_16 rfl (lv_at hl 0 rfl) ?_
      cases hf
      exact x_iret (pc := 17) X V hr dJ6_checkIndex_17
    · replace hf := if_f hf c2
      refine lv_aload_nN (pc := 9) hx hb dJ6_checkIndex_9 rfl (lv_at hl 2 rfl) ?_
      refine lv_iload_n (pc := 10) hx hb dJ6_checkIndex_10 rfl (lv_at hl 0 rfl) ?_
      refine lv_iload_n (pc := 11) hx hb dJ6_checkIndex_11 rfl (lv_at hl 1 rfl) ?_
      cases hf
theorem mJ6_checkIndex_n3 (l : Launch) (D : va_G) (dA : Nat → ClassId) (s0 : Nat) {T : xT} {N : xT} {Z : Nat} {I : xI} {L : xL} {R : xR} {x0 : Int32} {x1 : Int32} {ro : Int32} (hf : fJ6_checkIndex_n3 x0 x1 = some ro) : XMet l D dA s0 yJ6_checkIndex (ws_ yJ6_checkIndex cJ6_checkIndex 3 ((some .int))) (0) (0) [.int x0, .int x1, .null] T N Z I L R (some (.int ro)) T N Z I L R 0 0 :=
  x_start (own := RJ6) rfl (by decide) (Nat.le_of_ble_eq_true rfl) (lv := [(0, .int x0), (1, .int x1), (2, .null)]) rfl (fun p e s m below meth c ls X hr hini V hl => wJ6_checkIndex_n3_e X hr hf V hl)
set_option maxHeartbeats 400000 in
set_option maxRecDepth 100000 in
theorem wJ5_checkIndex_e {p : Program} {l : Launch} {e : Env} {s : State} {m : MethodId} {args : Array Value} {below : List Frame} {meth : Method} {c : Code} {D : va_G} {dA : Nat → ClassId} {s0 : Nat} {T : xT} {N : xT} {Z : Nat} {I : xI} {L : xL} {R : xR} {H : Heap} {locs : List Loc} {ls : Array Slot} {x0 : Int32} {x1 : Int32} {ro : Int32} (X : Cx D dA s0 p m c cJ5_checkIndex 2 s args RJ5 meth) (hr : meth.sig.returnType = (some .int)) (hf : fJ5_checkIndex x0 x1 = some ro) (V : Iv D dA s0 s T N Z I L R H locs) (hl : lv_has ls 2 [(0, .int x0), (1, .int x1)]) : W p l e { frames := 1, cells := 0, slots := 0, locals := 22 } s m args below meth c H locs 0 0 (MQ below (xQ D dA s0 (some (.int ro)) T N Z I L R) args s 0 0 (fun q => s0 ≤ q)) (F0 m 0 ls []) := by
  have hx := X.1.1
  have hb := X.1.2.1
  unfold fJ5_checkIndex at hf
  refine lv_iload_n (pc := 0) hx hb dJ5_checkIndex_0 rfl (lv_at hl 0 rfl) ?_
  refine lv_iload_n (pc := 1) hx hb dJ5_checkIndex_1 rfl (lv_at hl 1 rfl) ?_
  refine lv_null (pc := 2) hx hb dJ5_checkIndex_2 ?_
  replace hf := bs hf; obtain ⟨r1, hk_2, hf⟩ := hf
  refine x_callS0 (pc := 3) (As := [.int x0, .int x1, .null]) (rest := []) X V (mJ6_checkIndex_n3 l D dA s0 hk_2) q609 q610 q131 q611 hsJ6_checkIndex_n3 ⟨Nat.le_of_ble_eq_true rfl, Nat.le_of_ble_eq_true rfl⟩ rfl hl.1 rfl (Nat.le_of_ble_eq_true rfl) dJ5_checkIndex_3 ⟨Nat.zero_le _, Nat.zero_le _⟩ (fun H locs V => W.eq (g2 := F0 m 6 ls [.int r1]) rfl ?_)
  cases hf
  exact x_iret (pc := 6) X V hr dJ5_checkIndex_6
theorem mJ5_checkIndex (l : Launch) (D : va_G) (dA : Nat → ClassId) (s0 : Nat) {T : xT} {N : xT} {Z : Nat} {I : xI} {L : xL} {R : xR} {x0 : Int32} {x1 : Int32} {ro : Int32} (hf : fJ5_checkIndex x0 x1 = some ro) : XMet l D dA s0 yJ5_checkIndex (ws_ yJ5_checkIndex cJ5_checkIndex 2 ((some .int))) (1) (22) [.int x0, .int x1] T N Z I L R (some (.int ro)) T N Z I L R 0 0 :=
  x_start (own := RJ5) rfl (by decide) (Nat.le_of_ble_eq_true rfl) (lv := [(0, .int x0), (1, .int x1)]) rfl (fun p e s m below meth c ls X hr hini V hl => wJ5_checkIndex_e X hr hf V hl)
set_option maxHeartbeats 400000 in
set_option maxRecDepth 100000 in
theorem wJ2_elementData_e {p : Program} {l : Launch} {e : Env} {s : State} {m : MethodId} {args : Array Value} {below : List Frame} {meth : Method} {c : Code} {D : va_G} {dA : Nat → ClassId} {s0 : Nat} {T : xT} {N : xT} {Z : Nat} {I : xI} {L : xL} {R : xR} {H : Heap} {locs : List Loc} {ls : Array Slot} {x0 : Nat} {x1 : Int32} {ro : Nat} (X : Cx D dA s0 p m c cJ2_elementData 2 s args RJ2 meth) (hr : meth.sig.returnType = (some (.object "java/lang/Object"))) (hf : fJ2_elementData T N R x0 x1 = some ro) (V : Iv D dA s0 s T N Z I L R H locs) (hl : lv_has ls 2 [(0, .ref x0), (1, .int x1)]) : W p l e { frames := 0, cells := 0, slots := 0, locals := 0 } s m args below meth c H locs 0 0 (MQ below (xQ D dA s0 (some (.ref ro)) T N Z I L R) args s 0 0 (fun q => s0 ≤ q)) (F0 m 0 ls []) := by
  have hx := X.1.1
  have hb := X.1.2.1
  unfold fJ2_elementData at hf
  refine lv_aload_n (pc := 0) hx hb dJ2_elementData_0 rfl (lv_at hl 0 rfl) ?_
  replace hf := tg_s hf; obtain ⟨ht1, hf⟩ := hf
  replace hf := bs hf; obtain ⟨a2, ha2, hf⟩ := hf
  refine x_get (pc := 1) X V okJ2 ht1 1 (by decide) q209 (v := va_rf (R x0 1)) rfl dJ2_elementData_1 ?_
  refine x_topr ha2 ?_
  refine lv_iload_n (pc := 4) hx hb dJ2_elementData_4 rfl (lv_at hl 1 rfl) ?_
  replace hf := rA_s hf; obtain ⟨j3, hjj3, htj3, hij3, hf⟩ := hf
  refine x_aald (pc := 5) X V (k := 4) rfl (by decide) htj3 hij3 hjj3 dJ2_elementData_5 ?_
  replace hf := bs hf; obtain ⟨a4, ha4, hf⟩ := hf
  refine x_topr ha4 ?_
  cases hf
  exact x_aret (pc := 6) X V hr (Or.inl ⟨_, rfl⟩) dJ2_elementData_6
theorem mJ2_elementData (l : Launch) (D : va_G) (dA : Nat → ClassId) (s0 : Nat) {T : xT} {N : xT} {Z : Nat} {I : xI} {L : xL} {R : xR} {x0 : Nat} {x1 : Int32} {ro : Nat} (hf : fJ2_elementData T N R x0 x1 = some ro) : XMet l D dA s0 yJ2_elementData (ws_ yJ2_elementData cJ2_elementData 2 ((some (.object "java/lang/Object")))) (0) (0) [.ref x0, .int x1] T N Z I L R (some (.ref ro)) T N Z I L R 0 0 :=
  x_start (own := RJ2) rfl (by decide) (Nat.le_of_ble_eq_true rfl) (lv := [(0, .ref x0), (1, .int x1)]) rfl (fun p e s m below meth c ls X hr hini V hl => wJ2_elementData_e X hr hf V hl)
set_option maxHeartbeats 400000 in
set_option maxRecDepth 100000 in
theorem wJ2_get_e {p : Program} {l : Launch} {e : Env} {s : State} {m : MethodId} {args : Array Value} {below : List Frame} {meth : Method} {c : Code} {D : va_G} {dA : Nat → ClassId} {s0 : Nat} {T : xT} {N : xT} {Z : Nat} {I : xI} {L : xL} {R : xR} {H : Heap} {locs : List Loc} {ls : Array Slot} {x0 : Nat} {x1 : Int32} {ro : Nat} (X : Cx D dA s0 p m c cJ2_get 2 s args RJ2 meth) (hr : meth.sig.returnType = (some (.object "java/lang/Object"))) (hf : fJ2_get T N I R x0 x1 = some ro) (V : Iv D dA s0 s T N Z I L R H locs) (hl : lv_has ls 2 [(0, .ref x0), (1, .int x1)]) : W p l e { frames := 2, cells := 0, slots := 0, locals := 43 } s m args below meth c H locs 0 0 (MQ below (xQ D dA s0 (some (.ref ro)) T N Z I L R) args s 0 0 (fun q => s0 ≤ q)) (F0 m 0 ls []) := by
  have hx := X.1.1
  have hb := X.1.2.1
  unfold fJ2_get at hf
  refine lv_iload_n (pc := 0) hx hb dJ2_get_0 rfl (lv_at hl 1 rfl) ?_
  refine lv_aload_n (pc := 1) hx hb dJ2_get_1 rfl (lv_at hl 0 rfl) ?_
  replace hf := tg_s hf; obtain ⟨ht1, hf⟩ := hf
  refine x_get (pc := 2) X V okJ2 ht1 2 (by decide) q210 (v := .int (I x0 2)) rfl dJ2_get_2 ?_
  replace hf := bs hf; obtain ⟨r2, hk_3, hf⟩ := hf
  refine x_callS0 (pc := 5) (As := [.int x1, .int (I x0 2)]) (rest := []) X V (mJ5_checkIndex l D dA s0 hk_3) q606 q607 q130 q608 hsJ5_checkIndex ⟨Nat.le_of_ble_eq_true rfl, Nat.le_of_ble_eq_true rfl⟩ rfl hl.1 rfl (Nat.le_of_ble_eq_true rfl) dJ2_get_5 ⟨Nat.zero_le _, Nat.zero_le _⟩ (fun H locs V => W.eq (g2 := F0 m 8 ls [.int r2]) rfl ?_)
  refine lv_pop (pc := 8) hx hb dJ2_get_8 rfl ?_
  refine lv_aload_n (pc := 9) hx hb dJ2_get_9 rfl (lv_at hl 0 rfl) ?_
  refine lv_iload_n (pc := 10) hx hb dJ2_get_10 rfl (lv_at hl 1 rfl) ?_
  replace hf := bs hf; obtain ⟨r4, hk_5, hf⟩ := hf
  refine x_callV0 (pc := 11) (As := [.int x1]) (rest := []) X V (mJ2_elementData l D dA s0 hk_5) okJ2 ht1 q612 q613 q614 q124 q615 ⟨rfl, hsJ2_elementData⟩ ⟨Nat.le_of_ble_eq_true rfl, Nat.le_of_ble_eq_true rfl⟩ rfl hl.1 rfl (Nat.le_of_ble_eq_true rfl) dJ2_get_11 ⟨Nat.zero_le _, Nat.zero_le _⟩ (fun H locs V => W.eq (g2 := F0 m 14 ls [.ref r4]) rfl ?_)
  cases hf
  exact x_aret (pc := 14) X V hr (Or.inl ⟨_, rfl⟩) dJ2_get_14
theorem mJ2_get (l : Launch) (D : va_G) (dA : Nat → ClassId) (s0 : Nat) {T : xT} {N : xT} {Z : Nat} {I : xI} {L : xL} {R : xR} {x0 : Nat} {x1 : Int32} {ro : Nat} (hf : fJ2_get T N I R x0 x1 = some ro) : XMet l D dA s0 yJ2_get (ws_ yJ2_get cJ2_get 2 ((some (.object "java/lang/Object")))) (2) (43) [.ref x0, .int x1] T N Z I L R (some (.ref ro)) T N Z I L R 0 0 :=
  x_start (own := RJ2) rfl (by decide) (Nat.le_of_ble_eq_true rfl) (lv := [(0, .ref x0), (1, .int x1)]) rfl (fun p e s m below meth c ls X hr hini V hl => wJ2_get_e X hr hf V hl)
set_option maxHeartbeats 400000 in
set_option maxRecDepth 100000 in
theorem wX17_is_b2 {nf : Nat} {fd ld : Nat} {rc : xT → xT → xI → xL → xR → Nat → Nat → Option ((Nat ⊕ Int32))} {p : Program} {l : Launch} {e : Env} {s : State} {m : MethodId} {args : Array Value} {below : List Frame} {meth : Method} {c : Code} {D : va_G} {dA : Nat → ClassId} {s0 : Nat} {T : xT} {N : xT} {Z : Nat} {I : xI} {L : xL} {R : xR}  {ro : (Nat ⊕ Int32)} (X : Cx D dA s0 p m c cX17_is 3 s args RX17 meth) (hr : meth.sig.returnType = (some .boolean)) (htE : c.exceptionTable.toList = []) (hrc : Run_Test_is l D dA s0 fd ld rc)   (k : Nat) : ∀ {x0 : Nat} {x1 : Nat} {x2 : Int32} {H : Heap} {locs : List Loc} {ls : Array Slot} , fX17_is_b2 nf rc T N I L R k x0 x1 x2 = some ro → Iv D dA s0 s T N Z I L R H locs → lv_has ls 3 [(0, .ref x0), (1, .ref x1), (2, .int x2)] → W p l e { frames := fd + 3, cells := 0, slots := 0, locals := ld + 64 } s m args below meth c H locs 0 0 (vx_MQ below (yQ D dA s0 (rI ro) T N Z I L R) (yX D dA s0 (rI ro) T N Z I L R) args s 0 0 (fun q => s0 ≤ q)) (F0 m 2 ls []) := by
  have hx := X.1.1
  have hb := X.1.2.1
  induction k with
  | zero =>
    intro x0 x1 x2 H locs ls hf V hl
    exact absurd (show none = some _ from hf) (fun q => nomatch q)
  | succ k ih =>
    intro x0 x1 x2 H locs ls hf V hl
    rw [fX17_is_b2] at hf
    refine lv_iload_n (pc := 2) hx hb dX17_is_2 rfl (lv_at hl 2 rfl) ?_
    refine lv_aload_n (pc := 3) hx hb dX17_is_3 rfl (lv_at hl 0 rfl) ?_
    replace hf := tg_s hf; obtain ⟨ht1, hf⟩ := hf
    replace hf := bs hf; obtain ⟨a2, ha2, hf⟩ := hf
    refine x_get (pc := 4) X V okX17 ht1 1 (by decide) q1106 (v := va_rf (R x0 1)) rfl dX17_is_4 ?_
    refine x_topr ha2 ?_
    replace hf := tg_s hf; obtain ⟨ht5, hf⟩ := hf
    replace hf := bs hf; obtain ⟨r3, hk_4, hf⟩ := hf
    refine x_callV0 (pc := 7) (As := []) (rest := [.int x2]) X V (mJ2_size l D dA s0 hk_4) okJ2 ht5 q660 q623 q624 q124 q625 ⟨rfl, hsJ2_size⟩ ⟨by dsimp only; omega, by dsimp only; omega⟩ rfl hl.1 rfl (Nat.le_of_ble_eq_true rfl) dX17_is_7 ⟨Nat.zero_le _, Nat.zero_le _⟩ (fun H locs V => W.eq (g2 := F0 m 10 ls [.int r3, .int x2]) rfl ?_)
    refine lv_icmp_ge (pc := 10) (tgt := 54) hx hb dX17_is_10 (by decide) (fun c6 => ?_) (fun c6 => ?_)
    · replace hf := if_t hf c6
      refine lv_aload_n (pc := 54) hx hb dX17_is_54 rfl (lv_at hl 0 rfl) ?_
      refine x_get (pc := 55) X V okX17 ht1 0 (by decide) q1105 (v := .int (I x0 0)) rfl dX17_is_55 ?_
      replace hf := chk_s hf; obtain ⟨hz7, hf⟩ := hf
      cases hf
      exact y_zret (pc := 58) X V hr (Nat.zero_le _) (Nat.zero_le _) hz7 dX17_is_58
    · replace hf := if_f hf c6
      refine lv_aload_n (pc := 13) hx hb dX17_is_13 rfl (lv_at hl 0 rfl) ?_
      refine x_get (pc := 14) X V okX17 ht1 1 (by decide) q1106 (v := va_rf (R x0 1)) rfl dX17_is_14 ?_
      refine x_topr ha2 ?_
      refine lv_iload_n (pc := 17) hx hb dX17_is_17 rfl (lv_at hl 2 rfl) ?_
      replace hf := bs hf; obtain ⟨r8, hk_9, hf⟩ := hf
      refine x_callV0 (pc := 18) (As := [.int x2]) (rest := []) X V (mJ2_get l D dA s0 hk_9) okJ2 ht5 q661 q603 q604 q124 q605 ⟨rfl, hsJ2_get⟩ ⟨by dsimp only; omega, by dsimp only; omega⟩ rfl hl.1 rfl (Nat.le_of_ble_eq_true rfl) dX17_is_18 ⟨Nat.zero_le _, Nat.zero_le _⟩ (fun H locs V => W.eq (g2 := F0 m 21 ls [.ref r8]) rfl ?_)
      replace hf := chk_s hf; obtain ⟨hq10, hf⟩ := hf
      refine x_castTe (pc := 21) X V hq10 q662 dX17_is_21 ?_
      refine lv_aload_n (pc := 24) hx hb dX17_is_24 rfl (lv_at hl 1 rfl) ?_
      replace hf := bs hf; obtain ⟨r11, hk_12, hf⟩ := hf
      replace hf := xc_s hf; rcases hf with ⟨a13, hr_15, hf⟩ | ⟨v14, hr_15, hf⟩
      · rw [hr_15] at hk_12
        replace hf := tg_s hf; obtain ⟨ht16, hf⟩ := hf
        refine y_afterX (hrc (pc := 25) (rest := []) X V hk_12 q663 ⟨by dsimp only; omega, by dsimp only; omega⟩ hl.1 (Nat.le_of_ble_eq_true rfl) dX17_is_25 ⟨Nat.zero_le _, Nat.zero_le _⟩) V (fun H locs V => ?_)
        cases hf
        exact y_out X V htE okX4 ht16 (Nat.zero_le _) (Nat.zero_le _)
      · rw [hr_15] at hk_12
        refine y_afterR (hrc (pc := 25) (rest := []) X V hk_12 q663 ⟨by dsimp only; omega, by dsimp only; omega⟩ hl.1 (Nat.le_of_ble_eq_true rfl) dX17_is_25 ⟨Nat.zero_le _, Nat.zero_le _⟩) V (fun H locs V => W.eq (g2 := F0 m 28 ls [.int v14]) rfl ?_)
        refine lv_aload_n (pc := 28) hx hb dX17_is_28 rfl (lv_at hl 0 rfl) ?_
        refine x_get (pc := 29) X V okX17 ht1 0 (by decide) q1105 (v := .int (I x0 0)) rfl dX17_is_29 ?_
        refine lv_icmp_eq (pc := 32) (tgt := 48) hx hb dX17_is_32 (by decide) (fun c17 => ?_) (fun c17 => ?_)
        · replace hf := if_t hf c17
          replace hf := nm_s hf; obtain ⟨u18, hu18, hf⟩ := hf
          refine lv_iinc (pc := 48) (v := u18) (lv' := [(2, .int u18), (0, .ref x0), (1, .ref x1)]) hx hb dX17_is_48 hl (k := 2) rfl (by rw [hu18]; rfl) (by decide) rfl (fun ls hl => ?_)
          refine lv_goto (pc := 51) (tgt := 2) hx hb dX17_is_51 (by decide) ?_
          exact ih hf V (lv_sub hl [1, 2, 0] rfl)
        · replace hf := if_f hf c17
          refine lv_aload_n (pc := 35) hx hb dX17_is_35 rfl (lv_at hl 0 rfl) ?_
          refine x_get (pc := 36) X V okX17 ht1 0 (by decide) q1105 (v := .int (I x0 0)) rfl dX17_is_36 ?_
          refine lv_if_ne (pc := 39) (tgt := 46) hx hb dX17_is_39 (by decide) (fun c19 => ?_) (fun c19 => ?_)
          · replace hf := if_f hf c19
            refine lv_iconst (pc := 46) (v := (ii 0)) hx hb dX17_is_46 (by decide) ?_
            cases hf
            exact y_zret (pc := 47) X V hr (Nat.zero_le _) (Nat.zero_le _) (by decide) dX17_is_47
          · replace hf := if_t hf c19
            refine lv_iconst (pc := 42) (v := (ii 1)) hx hb dX17_is_42 (by decide) ?_
            refine lv_goto (pc := 43) (tgt := 47) hx hb dX17_is_43 (by decide) ?_
            cases hf
            exact y_zret (pc := 47) X V hr (Nat.zero_le _) (Nat.zero_le _) (by decide) dX17_is_47
set_option maxHeartbeats 400000 in
set_option maxRecDepth 100000 in
theorem wX17_is_e {nf : Nat} {fd ld : Nat} {rc : xT → xT → xI → xL → xR → Nat → Nat → Option ((Nat ⊕ Int32))} {p : Program} {l : Launch} {e : Env} {s : State} {m : MethodId} {args : Array Value} {below : List Frame} {meth : Method} {c : Code} {D : va_G} {dA : Nat → ClassId} {s0 : Nat} {T : xT} {N : xT} {Z : Nat} {I : xI} {L : xL} {R : xR} {H : Heap} {locs : List Loc} {ls : Array Slot} {x0 : Nat} {x1 : Nat} {ro : (Nat ⊕ Int32)} (X : Cx D dA s0 p m c cX17_is 3 s args RX17 meth) (hr : meth.sig.returnType = (some .boolean)) (htE : c.exceptionTable.toList = []) (hrc : Run_Test_is l D dA s0 fd ld rc) (hf : fX17_is nf rc T N I L R x0 x1 = some ro) (V : Iv D dA s0 s T N Z I L R H locs) (hl : lv_has ls 3 [(0, .ref x0), (1, .ref x1)]) : W p l e { frames := fd + 3, cells := 0, slots := 0, locals := ld + 64 } s m args below meth c H locs 0 0 (vx_MQ below (yQ D dA s0 (rI ro) T N Z I L R) (yX D dA s0 (rI ro) T N Z I L R) args s 0 0 (fun q => s0 ≤ q)) (F0 m 0 ls []) := by
  have hx := X.1.1
  have hb := X.1.2.1
  unfold fX17_is at hf
  refine lv_iconst (pc := 0) (v := (ii 0)) hx hb dX17_is_0 (by decide) ?_
  refine lv_istore_n (pc := 1) (lv' := [(2, .int (ii 0)), (0, .ref x0), (1, .ref x1)]) hx hb dX17_is_1 rfl hl (by decide) rfl (fun ls hl => ?_)
  exact wX17_is_b2 X hr htE hrc nf hf V (lv_sub hl [1, 2, 0] rfl)
theorem mX17_is {nf : Nat} {fd ld : Nat} {rc : xT → xT → xI → xL → xR → Nat → Nat → Option ((Nat ⊕ Int32))} (l : Launch) (D : va_G) (dA : Nat → ClassId) (s0 : Nat) {T : xT} {N : xT} {Z : Nat} {I : xI} {L : xL} {R : xR} {x0 : Nat} {x1 : Nat} {ro : (Nat ⊕ Int32)} (hrc : Run_Test_is l D dA s0 fd ld rc) (hf : fX17_is nf rc T N I L R x0 x1 = some ro) : YMet l D dA s0 yX17_is (ws_ yX17_is cX17_is 3 ((some .boolean))) (fd + 3) (ld + 64) [.ref x0, .ref x1] T N Z I L R (rI ro) T N Z I L R 0 0 :=
  y_start (own := RX17) rfl (by decide) (Nat.le_of_ble_eq_true rfl) (lv := [(0, .ref x0), (1, .ref x1)]) rfl (fun p e s m below meth c ls X hr htE V hl => wX17_is_e X hr htE hrc hf V hl)
theorem hu_Test_is : "LostLanes$Test" ≠ "java/lang/invoke/MethodHandle" ∧ "LostLanes$Test" ≠ "java/lang/invoke/VarHandle" ∧ (parseMethodDescriptor "(LLostLanes$Setting;)Z").map (fun d => d.parameters.length) = some 1 := by decide +kernel
set_option maxHeartbeats 400000 in
set_option maxRecDepth 100000 in
theorem run_Test_is (l : Launch) (D : va_G) (dA : Nat → ClassId) (s0 : Nat) {nf : Nat} (d : Nat) : Run_Test_is l D dA s0 (68 + 3 * d) (5808 + 86 * d) (fTest_is nf d) := by
  induction d with
  | zero =>
    intro p e Rm s m args below meth c H locs cells slots cc pc nL ls rest own T N Z I L R a b index r X V hf hq hR hsz hW hdg hc
    exact absurd (show none = some _ from hf) (fun q => nomatch q)
  | succ d ih =>
    intro p e Rm s m args below meth c H locs cells slots cc pc nL ls rest own T N Z I L R a b index r X V hf hq hR hsz hW hdg hc
    obtain ⟨hR1, hR2⟩ := hR
    rw [fTest_is] at hf
    by_cases c0 : T a = 13
    · have hf := if_t hf c0
      exact y_runA (As := [.ref b]) X V (mX15_is l D dA s0 hf) okX15 c0 hq q635 q636 q637 q145 q638 q634 hu_Test_is ⟨by omega, by omega⟩ rfl hsz rfl hW hdg hc
    have hf := if_f hf c0
    by_cases c1 : T a = 14
    · have hf := if_t hf c1
      exact y_runA (As := [.ref b]) X V (mX16_is l D dA s0 ih hf) okX16 c1 hq q635 q654 q655 q146 q656 q634 hu_Test_is ⟨by omega, by omega⟩ rfl hsz rfl hW hdg hc
    have hf := if_f hf c1
    by_cases c2 : T a = 15
    · have hf := if_t hf c2
      exact y_runA (As := [.ref b]) X V (mX17_is l D dA s0 ih hf) okX17 c2 hq q635 q664 q658 q147 q659 q634 hu_Test_is ⟨by omega, by omega⟩ rfl hsz rfl hW hdg hc
    have hf := if_f hf c2
    cases hf
set_option maxHeartbeats 400000 in
set_option maxRecDepth 100000 in
theorem wX9_tells_b22 {nf : Nat} {p : Program} {l : Launch} {e : Env} {s : State} {m : MethodId} {args : Array Value} {below : List Frame} {meth : Method} {c : Code} {D : va_G} {dA : Nat → ClassId} {s0 : Nat} {T : xT} {N : xT} {Z : Nat} {I : xI} {L : xL} {R : xR} {H : Heap} {locs : List Loc} {ls : Array Slot}  {x0 : Nat} {x1 : Nat} {ro : Int64} (X : Cx D dA s0 p m c cX9_tells 3 s args RX9 meth) (hr : meth.sig.returnType = (some .long)) (htE : c.exceptionTable.toList = [⟨0, 21, 42, 37⟩, ⟨22, 41, 42, 37⟩])   (hf : fX9_tells_b22 nf T N I L R x0 x1 = some ro) (V : Iv D dA s0 s T N Z I L R H locs) (hl : lv_has ls 3 [(0, .ref x0), (1, .ref x1)]) : W p l e { frames := 189, cells := 0, slots := 0, locals := 9308 } s m args below meth c H locs 0 0 (vx_MQ below (yQ D dA s0 (rL (.inr ro)) T N Z I L R) (yX D dA s0 (rL (.inr ro)) T N Z I L R) args s 0 0 (fun q => s0 ≤ q)) (F0 m 22 ls []) := by
  have hx := X.1.1
  have hb := X.1.2.1
  unfold fX9_tells_b22 at hf
  refine lv_aload_n (pc := 22) hx hb dX9_tells_22 rfl (lv_at hl 0 rfl) ?_
  replace hf := tg_s hf; obtain ⟨ht1, hf⟩ := hf
  refine x_get (pc := 23) X V okX9 ht1 1 (by decide) q886 (v := va_rf (R x0 1)) rfl dX9_tells_23 ?_
  replace hf := oc_s hf; rcases hf with ⟨ha2, hf⟩ | ⟨a2, ha2, hf⟩
  · refine x_topn ha2 ?_
    refine lv_ifnonnullN (pc := 26) hx hb dX9_tells_26 ?_
    refine lv_lconst (pc := 29) (v := (jj 1)) hx hb dX9_tells_29 (by decide) ?_
    refine lv_goto (pc := 30) (tgt := 41) hx hb dX9_tells_30 (by decide) ?_
    cases hf
    exact y_lret (pc := 41) X V hr (Nat.zero_le _) (Nat.zero_le _) dX9_tells_41
  · refine x_topr ha2 ?_
    refine lv_ifnonnull (pc := 26) (tgt := 33) hx hb dX9_tells_26 (by decide) ?_
    refine lv_aload_n (pc := 33) hx hb dX9_tells_33 rfl (lv_at hl 0 rfl) ?_
    refine x_get (pc := 34) X V okX9 ht1 1 (by decide) q886 (v := va_rf (R x0 1)) rfl dX9_tells_34 ?_
    refine x_topr ha2 ?_
    refine lv_aload_n (pc := 37) hx hb dX9_tells_37 rfl (lv_at hl 1 rfl) ?_
    replace hf := bs hf; obtain ⟨r3, hk_4, hf⟩ := hf
    replace hf := xc_s hf; rcases hf with ⟨a5, hr_7, hf⟩ | ⟨v6, hr_7, hf⟩
    · rw [hr_7] at hk_4
      replace hf := tg_s hf; obtain ⟨ht8, hf⟩ := hf
      refine y_afterX (run_Sum_of l D dA s0 64 (pc := 38) (rest := []) X V hk_4 q666 ⟨Nat.le_of_ble_eq_true rfl, Nat.le_of_ble_eq_true rfl⟩ hl.1 (Nat.le_of_ble_eq_true rfl) dX9_tells_38 ⟨Nat.zero_le _, Nat.zero_le _⟩) V (fun H locs V => ?_)
      refine y_catch (pc := 38) X V [⟨0, 21, 42, 37⟩] ⟨22, 41, 42, 37⟩ [] htE (by decide) (by decide) (by decide) q632 q290 okX4 ht8 ?_
      refine lv_astore_n (pc := 42) (lv' := [(2, .ref a5), (0, .ref x0), (1, .ref x1)]) hx hb dX9_tells_42 rfl hl (by decide) rfl (fun ls hl => ?_)
      refine lv_ldc2 (pc := 43) (v := (-4000000000 : Int64)) hx hb X.1.2.2.2.1 (X.1.2.2.2.2 _ q665) dX9_tells_43 ?_
      cases hf
      exact y_lret (pc := 46) X V hr (Nat.zero_le _) (Nat.zero_le _) dX9_tells_46
    · rw [hr_7] at hk_4
      refine y_afterR (run_Sum_of l D dA s0 64 (pc := 38) (rest := []) X V hk_4 q666 ⟨Nat.le_of_ble_eq_true rfl, Nat.le_of_ble_eq_true rfl⟩ hl.1 (Nat.le_of_ble_eq_true rfl) dX9_tells_38 ⟨Nat.zero_le _, Nat.zero_le _⟩) V (fun H locs V => W.eq (g2 := F0 m 41 ls [.long v6]) rfl ?_)
      cases hf
      exact y_lret (pc := 41) X V hr (Nat.zero_le _) (Nat.zero_le _) dX9_tells_41
set_option maxHeartbeats 400000 in
set_option maxRecDepth 100000 in
theorem wX9_tells_e {nf : Nat} {p : Program} {l : Launch} {e : Env} {s : State} {m : MethodId} {args : Array Value} {below : List Frame} {meth : Method} {c : Code} {D : va_G} {dA : Nat → ClassId} {s0 : Nat} {T : xT} {N : xT} {Z : Nat} {I : xI} {L : xL} {R : xR} {H : Heap} {locs : List Loc} {ls : Array Slot} {x0 : Nat} {x1 : Nat} {ro : Int64} (X : Cx D dA s0 p m c cX9_tells 3 s args RX9 meth) (hr : meth.sig.returnType = (some .long)) (htE : c.exceptionTable.toList = [⟨0, 21, 42, 37⟩, ⟨22, 41, 42, 37⟩]) (hf : fX9_tells nf T N I L R x0 x1 = some ro) (V : Iv D dA s0 s T N Z I L R H locs) (hl : lv_has ls 3 [(0, .ref x0), (1, .ref x1)]) : W p l e { frames := 189, cells := 0, slots := 0, locals := 9308 } s m args below meth c H locs 0 0 (vx_MQ below (yQ D dA s0 (rL (.inr ro)) T N Z I L R) (yX D dA s0 (rL (.inr ro)) T N Z I L R) args s 0 0 (fun q => s0 ≤ q)) (F0 m 0 ls []) := by
  have hx := X.1.1
  have hb := X.1.2.1
  unfold fX9_tells at hf
  refine lv_aload_n (pc := 0) hx hb dX9_tells_0 rfl (lv_at hl 0 rfl) ?_
  replace hf := tg_s hf; obtain ⟨ht1, hf⟩ := hf
  refine x_get (pc := 1) X V okX9 ht1 2 (by decide) q888 (v := va_rf (R x0 2)) rfl dX9_tells_1 ?_
  replace hf := oc_s hf; rcases hf with ⟨ha2, hf⟩ | ⟨a2, ha2, hf⟩
  · refine x_topn ha2 ?_
    refine lv_ifnullN (pc := 4) (tgt := 22) hx hb dX9_tells_4 (by decide) ?_
    exact wX9_tells_b22 X hr htE hf V (lv_sub hl [0, 1] rfl)
  · refine x_topr ha2 ?_
    refine lv_ifnull (pc := 4) hx hb dX9_tells_4 ?_
    refine lv_aload_n (pc := 7) hx hb dX9_tells_7 rfl (lv_at hl 0 rfl) ?_
    refine x_get (pc := 8) X V okX9 ht1 2 (by decide) q888 (v := va_rf (R x0 2)) rfl dX9_tells_8 ?_
    refine x_topr ha2 ?_
    refine lv_aload_n (pc := 11) hx hb dX9_tells_11 rfl (lv_at hl 1 rfl) ?_
    replace hf := bs hf; obtain ⟨r3, hk_4, hf⟩ := hf
    replace hf := xc_s hf; rcases hf with ⟨a5, hr_7, hf⟩ | ⟨v6, hr_7, hf⟩
    · rw [hr_7] at hk_4
      replace hf := tg_s hf; obtain ⟨ht8, hf⟩ := hf
      refine y_afterX (run_Test_is l D dA s0 (nf := nf) 40 (pc := 12) (rest := []) X V hk_4 q633 ⟨Nat.le_of_ble_eq_true rfl, Nat.le_of_ble_eq_true rfl⟩ hl.1 (Nat.le_of_ble_eq_true rfl) dX9_tells_12 ⟨Nat.zero_le _, Nat.zero_le _⟩) V (fun H locs V => ?_)
      refine y_catch (pc := 12) X V [] ⟨0, 21, 42, 37⟩ [⟨22, 41, 42, 37⟩] htE (by decide) (by decide) (by decide) q632 q290 okX4 ht8 ?_
      refine lv_astore_n (pc := 42) (lv' := [(2, .ref a5), (0, .ref x0), (1, .ref x1)]) hx hb dX9_tells_42 rfl hl (by decide) rfl (fun ls hl => ?_)
      refine lv_ldc2 (pc := 43) (v := (-4000000000 : Int64)) hx hb X.1.2.2.2.1 (X.1.2.2.2.2 _ q665) dX9_tells_43 ?_
      cases hf
      exact y_lret (pc := 46) X V hr (Nat.zero_le _) (Nat.zero_le _) dX9_tells_46
    · rw [hr_7] at hk_4
      refine y_afterR (run_Test_is l D dA s0 (nf := nf) 40 (pc := 12) (rest := []) X V hk_4 q633 ⟨Nat.le_of_ble_eq_true rfl, Nat.le_of_ble_eq_true rfl⟩ hl.1 (Nat.le_of_ble_eq_true rfl) dX9_tells_12 ⟨Nat.zero_le _, Nat.zero_le _⟩) V (fun H locs V => W.eq (g2 := F0 m 15 ls [.int v6]) rfl ?_)
      refine lv_if_ne (pc := 15) (tgt := 22) hx hb dX9_tells_15 (by decide) (fun c9 => ?_) (fun c9 => ?_)
      · replace hf := if_f hf c9
        exact wX9_tells_b22 X hr htE hf V (lv_sub hl [0, 1] rfl)
      · replace hf := if_t hf c9
        refine lv_ldc2 (pc := 18) (v := (-4000000000 : Int64)) hx hb X.1.2.2.2.1 (X.1.2.2.2.2 _ q665) dX9_tells_18 ?_
        cases hf
        exact y_lret (pc := 21) X V hr (Nat.zero_le _) (Nat.zero_le _) dX9_tells_21
theorem mX9_tells {nf : Nat} (l : Launch) (D : va_G) (dA : Nat → ClassId) (s0 : Nat) {T : xT} {N : xT} {Z : Nat} {I : xI} {L : xL} {R : xR} {x0 : Nat} {x1 : Nat} {ro : Int64} (hf : fX9_tells nf T N I L R x0 x1 = some ro) : YMet l D dA s0 yX9_tells (wsW_ yX9_tells cX9_tells 3 ((some .long)) [(0, 21, 42, 37), (22, 41, 42, 37)]) (189) (9308) [.ref x0, .ref x1] T N Z I L R (rL (.inr ro)) T N Z I L R 0 0 :=
  y_startH (own := RX9) rfl (by decide) (Nat.le_of_ble_eq_true rfl) (lv := [(0, .ref x0), (1, .ref x1)]) rfl rfl (fun p e s m below meth c ls X hr htE V hl => wX9_tells_e X hr htE hf V hl)
set_option maxHeartbeats 400000 in
set_option maxRecDepth 100000 in
theorem wX9_init_e {p : Program} {l : Launch} {e : Env} {s : State} {m : MethodId} {args : Array Value} {below : List Frame} {meth : Method} {c : Code} {D : va_G} {dA : Nat → ClassId} {s0 : Nat} {T : xT} {N : xT} {Z : Nat} {I : xI} {L : xL} {R : xR} {H : Heap} {locs : List Loc} {ls : Array Slot} {x0 : Nat} {x1 : Int32} {Io : xI} (X : Cx D dA s0 p m c cX9_init 2 s args RX9 meth) (hr : meth.sig.returnType = none) (hini : meth.name = "<init>") (hf : fX9_init T I x0 x1 = some Io) (V : Iv D dA s0 s T N Z I L R H locs) (hl : lv_has ls 2 [(0, .ref x0), (1, .int x1)]) : W p l e { frames := 1, cells := 0, slots := 0, locals := 20 } s m args below meth c H locs 0 0 (MQ below (xQ D dA s0 none T N Z Io L R) args s 0 0 (fun q => s0 ≤ q)) (F0 m 0 ls []) := by
  have hx := X.1.1
  have hb := X.1.2.1
  unfold fX9_init at hf
  refine lv_aload_n (pc := 0) hx hb dX9_init_0 rfl (lv_at hl 0 rfl) ?_
  refine x_objInit (pc := 1) X q883 q161 q162 hl.1 (Nat.le_of_ble_eq_true rfl) (Nat.le_of_ble_eq_true rfl) dX9_init_1 ?_
  refine lv_aload_n (pc := 4) hx hb dX9_init_4 rfl (lv_at hl 0 rfl) ?_
  refine lv_iload_n (pc := 5) hx hb dX9_init_5 rfl (lv_at hl 1 rfl) ?_
  replace hf := tg_s hf; obtain ⟨ht1, hf⟩ := hf
  replace hf := nm_s hf; obtain ⟨I2, hI2, hf⟩ := hf
  refine x_puti (pc := 6) X V okX9 (by decide) ht1 0 (by decide) q884 (Or.inr ⟨rfl, hini, rfl⟩) hI2 (fun _ _ _ => rfl) rfl rfl dX9_init_6 (fun H locs V => ?_)
  cases hf
  exact x_vret (pc := 9) X V hr dX9_init_9
theorem mX9_init (l : Launch) (D : va_G) (dA : Nat → ClassId) (s0 : Nat) {T : xT} {N : xT} {Z : Nat} {I : xI} {L : xL} {R : xR} {x0 : Nat} {x1 : Int32} {Io : xI} (hf : fX9_init T I x0 x1 = some Io) : XMet l D dA s0 yX9_init (ws_ yX9_init cX9_init 2 (none)) (1) (20) [.ref x0, .int x1] T N Z I L R none T N Z Io L R 0 0 :=
  x_start (own := RX9) rfl (by decide) (Nat.le_of_ble_eq_true rfl) (lv := [(0, .ref x0), (1, .int x1)]) rfl (fun p e s m below meth c ls X hr hini V hl => wX9_init_e X hr hini hf V hl)
set_option maxHeartbeats 400000 in
set_option maxRecDepth 100000 in
theorem wX10_init_rX11_e {p : Program} {l : Launch} {e : Env} {s : State} {m : MethodId} {args : Array Value} {below : List Frame} {meth : Method} {c : Code} {D : va_G} {dA : Nat → ClassId} {s0 : Nat} {T : xT} {N : xT} {Z : Nat} {I : xI} {L : xL} {R : xR} {H : Heap} {locs : List Loc} {ls : Array Slot} {x0 : Nat}  (X : Cx D dA s0 p m c cX10_init 1 s args RX10 meth) (hr : meth.sig.returnType = none) (hini : meth.name = "<init>") (hf : fX10_init_rX11 x0 = some ()) (V : Iv D dA s0 s T N Z I L R H locs) (hl : lv_has ls 1 [(0, .ref x0)]) : W p l e { frames := 1, cells := 0, slots := 0, locals := 20 } s m args below meth c H locs 0 0 (MQ below (xQ D dA s0 none T N Z I L R) args s 0 0 (fun q => s0 ≤ q)) (F0 m 0 ls []) := by
  have hx := X.1.1
  have hb := X.1.2.1
  unfold fX10_init_rX11 at hf
  refine lv_aload_n (pc := 0) hx hb dX10_init_0 rfl (lv_at hl 0 rfl) ?_
  refine x_objInit (pc := 1) X q957 q161 q162 hl.1 (Nat.le_of_ble_eq_true rfl) (Nat.le_of_ble_eq_true rfl) dX10_init_1 ?_
  cases hf
  exact x_vret (pc := 4) X V hr dX10_init_4
theorem mX10_init_rX11 (l : Launch) (D : va_G) (dA : Nat → ClassId) (s0 : Nat) {T : xT} {N : xT} {Z : Nat} {I : xI} {L : xL} {R : xR} {x0 : Nat}  (hf : fX10_init_rX11 x0 = some ()) : XMet l D dA s0 yX10_init (ws_ yX10_init cX10_init 1 (none)) (1) (20) [.ref x0] T N Z I L R none T N Z I L R 0 0 :=
  x_start (own := RX10) rfl (by decide) (Nat.le_of_ble_eq_true rfl) (lv := [(0, .ref x0)]) rfl (fun p e s m below meth c ls X hr hini V hl => wX10_init_rX11_e X hr hini hf V hl)
set_option maxHeartbeats 400000 in
set_option maxRecDepth 100000 in
theorem wX11_init_e {p : Program} {l : Launch} {e : Env} {s : State} {m : MethodId} {args : Array Value} {below : List Frame} {meth : Method} {c : Code} {D : va_G} {dA : Nat → ClassId} {s0 : Nat} {T : xT} {N : xT} {Z : Nat} {I : xI} {L : xL} {R : xR} {H : Heap} {locs : List Loc} {ls : Array Slot} {x0 : Nat} {x1 : Int32} {Io : xI} (X : Cx D dA s0 p m c cX11_init 2 s args RX11 meth) (hr : meth.sig.returnType = none) (hini : meth.name = "<init>") (hf : fX11_init T I x0 x1 = some Io) (V : Iv D dA s0 s T N Z I L R H locs) (hl : lv_has ls 2 [(0, .ref x0), (1, .int x1)]) : W p l e { frames := 2, cells := 0, slots := 0, locals := 40 } s m args below meth c H locs 0 0 (MQ below (xQ D dA s0 none T N Z Io L R) args s 0 0 (fun q => s0 ≤ q)) (F0 m 0 ls []) := by
  have hx := X.1.1
  have hb := X.1.2.1
  unfold fX11_init at hf
  refine lv_aload_n (pc := 0) hx hb dX11_init_0 rfl (lv_at hl 0 rfl) ?_
  replace hf := bs hf; obtain ⟨_, hk_1, hf⟩ := hf
  refine x_callIN0 (pc := 1) (As := []) (rest := []) X V (mX10_init_rX11 l D dA s0 hk_1) q954 q955 q140 q956 rfl hsX10_init_rX11 ⟨Nat.le_of_ble_eq_true rfl, Nat.le_of_ble_eq_true rfl⟩ rfl hl.1 rfl (Nat.le_of_ble_eq_true rfl) dX11_init_1 ⟨Nat.zero_le _, Nat.zero_le _⟩ (fun H locs V => W.eq (g2 := F0 m 4 ls []) rfl ?_)
  refine lv_aload_n (pc := 4) hx hb dX11_init_4 rfl (lv_at hl 0 rfl) ?_
  refine lv_iload_n (pc := 5) hx hb dX11_init_5 rfl (lv_at hl 1 rfl) ?_
  replace hf := tg_s hf; obtain ⟨ht2, hf⟩ := hf
  replace hf := nm_s hf; obtain ⟨I3, hI3, hf⟩ := hf
  refine x_puti (pc := 6) X V okX11 (by decide) ht2 0 (by decide) q958 (Or.inr ⟨rfl, hini, rfl⟩) hI3 (fun _ _ _ => rfl) rfl rfl dX11_init_6 (fun H locs V => ?_)
  cases hf
  exact x_vret (pc := 9) X V hr dX11_init_9
theorem mX11_init (l : Launch) (D : va_G) (dA : Nat → ClassId) (s0 : Nat) {T : xT} {N : xT} {Z : Nat} {I : xI} {L : xL} {R : xR} {x0 : Nat} {x1 : Int32} {Io : xI} (hf : fX11_init T I x0 x1 = some Io) : XMet l D dA s0 yX11_init (ws_ yX11_init cX11_init 2 (none)) (2) (40) [.ref x0, .int x1] T N Z I L R none T N Z Io L R 0 0 :=
  x_start (own := RX11) rfl (by decide) (Nat.le_of_ble_eq_true rfl) (lv := [(0, .ref x0), (1, .int x1)]) rfl (fun p e s m below meth c ls X hr hini V hl => wX11_init_e X hr hini hf V hl)
set_option maxHeartbeats 400000 in
set_option maxRecDepth 100000 in
theorem wX10_init_rX12_e {p : Program} {l : Launch} {e : Env} {s : State} {m : MethodId} {args : Array Value} {below : List Frame} {meth : Method} {c : Code} {D : va_G} {dA : Nat → ClassId} {s0 : Nat} {T : xT} {N : xT} {Z : Nat} {I : xI} {L : xL} {R : xR} {H : Heap} {locs : List Loc} {ls : Array Slot} {x0 : Nat}  (X : Cx D dA s0 p m c cX10_init 1 s args RX10 meth) (hr : meth.sig.returnType = none) (hini : meth.name = "<init>") (hf : fX10_init_rX12 x0 = some ()) (V : Iv D dA s0 s T N Z I L R H locs) (hl : lv_has ls 1 [(0, .ref x0)]) : W p l e { frames := 1, cells := 0, slots := 0, locals := 20 } s m args below meth c H locs 0 0 (MQ below (xQ D dA s0 none T N Z I L R) args s 0 0 (fun q => s0 ≤ q)) (F0 m 0 ls []) := by
  have hx := X.1.1
  have hb := X.1.2.1
  unfold fX10_init_rX12 at hf
  refine lv_aload_n (pc := 0) hx hb dX10_init_0 rfl (lv_at hl 0 rfl) ?_
  refine x_objInit (pc := 1) X q957 q161 q162 hl.1 (Nat.le_of_ble_eq_true rfl) (Nat.le_of_ble_eq_true rfl) dX10_init_1 ?_
  cases hf
  exact x_vret (pc := 4) X V hr dX10_init_4
theorem mX10_init_rX12 (l : Launch) (D : va_G) (dA : Nat → ClassId) (s0 : Nat) {T : xT} {N : xT} {Z : Nat} {I : xI} {L : xL} {R : xR} {x0 : Nat}  (hf : fX10_init_rX12 x0 = some ()) : XMet l D dA s0 yX10_init (ws_ yX10_init cX10_init 1 (none)) (1) (20) [.ref x0] T N Z I L R none T N Z I L R 0 0 :=
  x_start (own := RX10) rfl (by decide) (Nat.le_of_ble_eq_true rfl) (lv := [(0, .ref x0)]) rfl (fun p e s m below meth c ls X hr hini V hl => wX10_init_rX12_e X hr hini hf V hl)
set_option maxHeartbeats 400000 in
set_option maxRecDepth 100000 in
theorem wX12_init_e {p : Program} {l : Launch} {e : Env} {s : State} {m : MethodId} {args : Array Value} {below : List Frame} {meth : Method} {c : Code} {D : va_G} {dA : Nat → ClassId} {s0 : Nat} {T : xT} {N : xT} {Z : Nat} {I : xI} {L : xL} {R : xR} {H : Heap} {locs : List Loc} {ls : Array Slot} {x0 : Nat} {x1 : Int32} {Io : xI} (X : Cx D dA s0 p m c cX12_init 2 s args RX12 meth) (hr : meth.sig.returnType = none) (hini : meth.name = "<init>") (hf : fX12_init T I x0 x1 = some Io) (V : Iv D dA s0 s T N Z I L R H locs) (hl : lv_has ls 2 [(0, .ref x0), (1, .int x1)]) : W p l e { frames := 2, cells := 0, slots := 0, locals := 40 } s m args below meth c H locs 0 0 (MQ below (xQ D dA s0 none T N Z Io L R) args s 0 0 (fun q => s0 ≤ q)) (F0 m 0 ls []) := by
  have hx := X.1.1
  have hb := X.1.2.1
  unfold fX12_init at hf
  refine lv_aload_n (pc := 0) hx hb dX12_init_0 rfl (lv_at hl 0 rfl) ?_
  replace hf := bs hf; obtain ⟨_, hk_1, hf⟩ := hf
  refine x_callIN0 (pc := 1) (As := []) (rest := []) X V (mX10_init_rX12 l D dA s0 hk_1) q1005 q955 q140 q956 rfl hsX10_init_rX12 ⟨Nat.le_of_ble_eq_true rfl, Nat.le_of_ble_eq_true rfl⟩ rfl hl.1 rfl (Nat.le_of_ble_eq_true rfl) dX12_init_1 ⟨Nat.zero_le _, Nat.zero_le _⟩ (fun H locs V => W.eq (g2 := F0 m 4 ls []) rfl ?_)
  refine lv_aload_n (pc := 4) hx hb dX12_init_4 rfl (lv_at hl 0 rfl) ?_
  refine lv_iload_n (pc := 5) hx hb dX12_init_5 rfl (lv_at hl 1 rfl) ?_
  replace hf := tg_s hf; obtain ⟨ht2, hf⟩ := hf
  replace hf := nm_s hf; obtain ⟨I3, hI3, hf⟩ := hf
  refine x_puti (pc := 6) X V okX12 (by decide) ht2 0 (by decide) q1006 (Or.inr ⟨rfl, hini, rfl⟩) hI3 (fun _ _ _ => rfl) rfl rfl dX12_init_6 (fun H locs V => ?_)
  cases hf
  exact x_vret (pc := 9) X V hr dX12_init_9
theorem mX12_init (l : Launch) (D : va_G) (dA : Nat → ClassId) (s0 : Nat) {T : xT} {N : xT} {Z : Nat} {I : xI} {L : xL} {R : xR} {x0 : Nat} {x1 : Int32} {Io : xI} (hf : fX12_init T I x0 x1 = some Io) : XMet l D dA s0 yX12_init (ws_ yX12_init cX12_init 2 (none)) (2) (40) [.ref x0, .int x1] T N Z I L R none T N Z Io L R 0 0 :=
  x_start (own := RX12) rfl (by decide) (Nat.le_of_ble_eq_true rfl) (lv := [(0, .ref x0), (1, .int x1)]) rfl (fun p e s m below meth c ls X hr hini V hl => wX12_init_e X hr hini hf V hl)
set_option maxHeartbeats 400000 in
set_option maxRecDepth 100000 in
theorem wX10_init_rX13_e {p : Program} {l : Launch} {e : Env} {s : State} {m : MethodId} {args : Array Value} {below : List Frame} {meth : Method} {c : Code} {D : va_G} {dA : Nat → ClassId} {s0 : Nat} {T : xT} {N : xT} {Z : Nat} {I : xI} {L : xL} {R : xR} {H : Heap} {locs : List Loc} {ls : Array Slot} {x0 : Nat}  (X : Cx D dA s0 p m c cX10_init 1 s args RX10 meth) (hr : meth.sig.returnType = none) (hini : meth.name = "<init>") (hf : fX10_init_rX13 x0 = some ()) (V : Iv D dA s0 s T N Z I L R H locs) (hl : lv_has ls 1 [(0, .ref x0)]) : W p l e { frames := 1, cells := 0, slots := 0, locals := 20 } s m args below meth c H locs 0 0 (MQ below (xQ D dA s0 none T N Z I L R) args s 0 0 (fun q => s0 ≤ q)) (F0 m 0 ls []) := by
  have hx := X.1.1
  have hb := X.1.2.1
  unfold fX10_init_rX13 at hf
  refine lv_aload_n (pc := 0) hx hb dX10_init_0 rfl (lv_at hl 0 rfl) ?_
  refine x_objInit (pc := 1) X q957 q161 q162 hl.1 (Nat.le_of_ble_eq_true rfl) (Nat.le_of_ble_eq_true rfl) dX10_init_1 ?_
  cases hf
  exact x_vret (pc := 4) X V hr dX10_init_4
theorem mX10_init_rX13 (l : Launch) (D : va_G) (dA : Nat → ClassId) (s0 : Nat) {T : xT} {N : xT} {Z : Nat} {I : xI} {L : xL} {R : xR} {x0 : Nat}  (hf : fX10_init_rX13 x0 = some ()) : XMet l D dA s0 yX10_init (ws_ yX10_init cX10_init 1 (none)) (1) (20) [.ref x0] T N Z I L R none T N Z I L R 0 0 :=
  x_start (own := RX10) rfl (by decide) (Nat.le_of_ble_eq_true rfl) (lv := [(0, .ref x0)]) rfl (fun p e s m below meth c ls X hr hini V hl => wX10_init_rX13_e X hr hini hf V hl)
set_option maxHeartbeats 400000 in
set_option maxRecDepth 100000 in
theorem wX13_init_e {p : Program} {l : Launch} {e : Env} {s : State} {m : MethodId} {args : Array Value} {below : List Frame} {meth : Method} {c : Code} {D : va_G} {dA : Nat → ClassId} {s0 : Nat} {T : xT} {N : xT} {Z : Nat} {I : xI} {L : xL} {R : xR} {H : Heap} {locs : List Loc} {ls : Array Slot} {x0 : Nat} {x1 : Int32} {x2 : Nat} {x3 : Nat} {Io : xI} {Ro : xR} (X : Cx D dA s0 p m c cX13_init 4 s args RX13 meth) (hr : meth.sig.returnType = none) (hini : meth.name = "<init>") (hf : fX13_init T I R x0 x1 x2 x3 = some (Io, Ro)) (V : Iv D dA s0 s T N Z I L R H locs) (hl : lv_has ls 4 [(0, .ref x0), (1, .int x1), (2, .ref x2), (3, .ref x3)]) : W p l e { frames := 2, cells := 0, slots := 0, locals := 40 } s m args below meth c H locs 0 0 (MQ below (xQ D dA s0 none T N Z Io L Ro) args s 0 0 (fun q => s0 ≤ q)) (F0 m 0 ls []) := by
  have hx := X.1.1
  have hb := X.1.2.1
  unfold fX13_init at hf
  refine lv_aload_n (pc := 0) hx hb dX13_init_0 rfl (lv_at hl 0 rfl) ?_
  replace hf := bs hf; obtain ⟨_, hk_1, hf⟩ := hf
  refine x_callIN0 (pc := 1) (As := []) (rest := []) X V (mX10_init_rX13 l D dA s0 hk_1) q1018 q955 q140 q956 rfl hsX10_init_rX13 ⟨Nat.le_of_ble_eq_true rfl, Nat.le_of_ble_eq_true rfl⟩ rfl hl.1 rfl (Nat.le_of_ble_eq_true rfl) dX13_init_1 ⟨Nat.zero_le _, Nat.zero_le _⟩ (fun H locs V => W.eq (g2 := F0 m 4 ls []) rfl ?_)
  refine lv_aload_n (pc := 4) hx hb dX13_init_4 rfl (lv_at hl 0 rfl) ?_
  refine lv_iload_n (pc := 5) hx hb dX13_init_5 rfl (lv_at hl 1 rfl) ?_
  replace hf := tg_s hf; obtain ⟨ht2, hf⟩ := hf
  replace hf := chk_s hf; obtain ⟨hz3, hf⟩ := hf
  replace hf := nm_s hf; obtain ⟨I4, hI4, hf⟩ := hf
  refine x_puti (pc := 6) X V okX13 (by decide) ht2 0 (by decide) q1019 (Or.inr ⟨rfl, hini, rfl⟩) hI4 (fun _ _ _ => rfl) (chb_n hz3) (chb_f hz3) dX13_init_6 (fun H locs V => ?_)
  refine lv_aload_n (pc := 9) hx hb dX13_init_9 rfl (lv_at hl 0 rfl) ?_
  refine lv_aload_n (pc := 10) hx hb dX13_init_10 rfl (lv_at hl 2 rfl) ?_
  replace hf := nm_s hf; obtain ⟨R5, hR5, hf⟩ := hf
  refine x_putr (pc := 11) X V okX13 (by decide) ht2 1 (by decide) q1020 (Or.inr ⟨rfl, hini, rfl⟩) hR5 (fun _ _ _ => rfl) (v := .ref x2) rfl rfl rfl dX13_init_11 (fun H locs V => ?_)
  refine lv_aload_n (pc := 14) hx hb dX13_init_14 rfl (lv_at hl 0 rfl) ?_
  refine lv_aload_n (pc := 15) hx hb dX13_init_15 rfl (lv_at hl 3 rfl) ?_
  replace hf := nm_s hf; obtain ⟨R6, hR6, hf⟩ := hf
  refine x_putr (pc := 16) X V okX13 (by decide) ht2 2 (by decide) q1021 (Or.inr ⟨rfl, hini, rfl⟩) hR6 (fun _ _ _ => rfl) (v := .ref x3) rfl rfl rfl dX13_init_16 (fun H locs V => ?_)
  cases hf
  exact x_vret (pc := 19) X V hr dX13_init_19
theorem mX13_init (l : Launch) (D : va_G) (dA : Nat → ClassId) (s0 : Nat) {T : xT} {N : xT} {Z : Nat} {I : xI} {L : xL} {R : xR} {x0 : Nat} {x1 : Int32} {x2 : Nat} {x3 : Nat} {Io : xI} {Ro : xR} (hf : fX13_init T I R x0 x1 x2 x3 = some (Io, Ro)) : XMet l D dA s0 yX13_init (ws_ yX13_init cX13_init 4 (none)) (2) (40) [.ref x0, .int x1, .ref x2, .ref x3] T N Z I L R none T N Z Io L Ro 0 0 :=
  x_start (own := RX13) rfl (by decide) (Nat.le_of_ble_eq_true rfl) (lv := [(0, .ref x0), (1, .int x1), (2, .ref x2), (3, .ref x3)]) rfl (fun p e s m below meth c ls X hr hini V hl => wX13_init_e X hr hini hf V hl)
set_option maxHeartbeats 400000 in
set_option maxRecDepth 100000 in
theorem wX14_init_rX15_e {p : Program} {l : Launch} {e : Env} {s : State} {m : MethodId} {args : Array Value} {below : List Frame} {meth : Method} {c : Code} {D : va_G} {dA : Nat → ClassId} {s0 : Nat} {T : xT} {N : xT} {Z : Nat} {I : xI} {L : xL} {R : xR} {H : Heap} {locs : List Loc} {ls : Array Slot} {x0 : Nat}  (X : Cx D dA s0 p m c cX14_init 1 s args RX14 meth) (hr : meth.sig.returnType = none) (hini : meth.name = "<init>") (hf : fX14_init_rX15 x0 = some ()) (V : Iv D dA s0 s T N Z I L R H locs) (hl : lv_has ls 1 [(0, .ref x0)]) : W p l e { frames := 1, cells := 0, slots := 0, locals := 20 } s m args below meth c H locs 0 0 (MQ below (xQ D dA s0 none T N Z I L R) args s 0 0 (fun q => s0 ≤ q)) (F0 m 0 ls []) := by
  have hx := X.1.1
  have hb := X.1.2.1
  unfold fX14_init_rX15 at hf
  refine lv_aload_n (pc := 0) hx hb dX14_init_0 rfl (lv_at hl 0 rfl) ?_
  refine x_objInit (pc := 1) X q1075 q161 q162 hl.1 (Nat.le_of_ble_eq_true rfl) (Nat.le_of_ble_eq_true rfl) dX14_init_1 ?_
  cases hf
  exact x_vret (pc := 4) X V hr dX14_init_4
theorem mX14_init_rX15 (l : Launch) (D : va_G) (dA : Nat → ClassId) (s0 : Nat) {T : xT} {N : xT} {Z : Nat} {I : xI} {L : xL} {R : xR} {x0 : Nat}  (hf : fX14_init_rX15 x0 = some ()) : XMet l D dA s0 yX14_init (ws_ yX14_init cX14_init 1 (none)) (1) (20) [.ref x0] T N Z I L R none T N Z I L R 0 0 :=
  x_start (own := RX14) rfl (by decide) (Nat.le_of_ble_eq_true rfl) (lv := [(0, .ref x0)]) rfl (fun p e s m below meth c ls X hr hini V hl => wX14_init_rX15_e X hr hini hf V hl)
set_option maxHeartbeats 400000 in
set_option maxRecDepth 100000 in
theorem wX15_init_e {p : Program} {l : Launch} {e : Env} {s : State} {m : MethodId} {args : Array Value} {below : List Frame} {meth : Method} {c : Code} {D : va_G} {dA : Nat → ClassId} {s0 : Nat} {T : xT} {N : xT} {Z : Nat} {I : xI} {L : xL} {R : xR} {H : Heap} {locs : List Loc} {ls : Array Slot} {x0 : Nat} {x1 : Int32} {x2 : Nat} {x3 : Nat} {Io : xI} {Ro : xR} (X : Cx D dA s0 p m c cX15_init 4 s args RX15 meth) (hr : meth.sig.returnType = none) (hini : meth.name = "<init>") (hf : fX15_init T I R x0 x1 x2 x3 = some (Io, Ro)) (V : Iv D dA s0 s T N Z I L R H locs) (hl : lv_has ls 4 [(0, .ref x0), (1, .int x1), (2, .ref x2), (3, .ref x3)]) : W p l e { frames := 2, cells := 0, slots := 0, locals := 40 } s m args below meth c H locs 0 0 (MQ below (xQ D dA s0 none T N Z Io L Ro) args s 0 0 (fun q => s0 ≤ q)) (F0 m 0 ls []) := by
  have hx := X.1.1
  have hb := X.1.2.1
  unfold fX15_init at hf
  refine lv_aload_n (pc := 0) hx hb dX15_init_0 rfl (lv_at hl 0 rfl) ?_
  replace hf := bs hf; obtain ⟨_, hk_1, hf⟩ := hf
  refine x_callIN0 (pc := 1) (As := []) (rest := []) X V (mX14_init_rX15 l D dA s0 hk_1) q1072 q1073 q144 q1074 rfl hsX14_init_rX15 ⟨Nat.le_of_ble_eq_true rfl, Nat.le_of_ble_eq_true rfl⟩ rfl hl.1 rfl (Nat.le_of_ble_eq_true rfl) dX15_init_1 ⟨Nat.zero_le _, Nat.zero_le _⟩ (fun H locs V => W.eq (g2 := F0 m 4 ls []) rfl ?_)
  refine lv_aload_n (pc := 4) hx hb dX15_init_4 rfl (lv_at hl 0 rfl) ?_
  refine lv_iload_n (pc := 5) hx hb dX15_init_5 rfl (lv_at hl 1 rfl) ?_
  replace hf := tg_s hf; obtain ⟨ht2, hf⟩ := hf
  replace hf := chk_s hf; obtain ⟨hz3, hf⟩ := hf
  replace hf := nm_s hf; obtain ⟨I4, hI4, hf⟩ := hf
  refine x_puti (pc := 6) X V okX15 (by decide) ht2 0 (by decide) q1076 (Or.inr ⟨rfl, hini, rfl⟩) hI4 (fun _ _ _ => rfl) (chb_n hz3) (chb_f hz3) dX15_init_6 (fun H locs V => ?_)
  refine lv_aload_n (pc := 9) hx hb dX15_init_9 rfl (lv_at hl 0 rfl) ?_
  refine lv_aload_n (pc := 10) hx hb dX15_init_10 rfl (lv_at hl 2 rfl) ?_
  replace hf := nm_s hf; obtain ⟨R5, hR5, hf⟩ := hf
  refine x_putr (pc := 11) X V okX15 (by decide) ht2 1 (by decide) q1077 (Or.inr ⟨rfl, hini, rfl⟩) hR5 (fun _ _ _ => rfl) (v := .ref x2) rfl rfl rfl dX15_init_11 (fun H locs V => ?_)
  refine lv_aload_n (pc := 14) hx hb dX15_init_14 rfl (lv_at hl 0 rfl) ?_
  refine lv_aload_n (pc := 15) hx hb dX15_init_15 rfl (lv_at hl 3 rfl) ?_
  replace hf := nm_s hf; obtain ⟨R6, hR6, hf⟩ := hf
  refine x_putr (pc := 16) X V okX15 (by decide) ht2 2 (by decide) q1078 (Or.inr ⟨rfl, hini, rfl⟩) hR6 (fun _ _ _ => rfl) (v := .ref x3) rfl rfl rfl dX15_init_16 (fun H locs V => ?_)
  cases hf
  exact x_vret (pc := 19) X V hr dX15_init_19
theorem mX15_init (l : Launch) (D : va_G) (dA : Nat → ClassId) (s0 : Nat) {T : xT} {N : xT} {Z : Nat} {I : xI} {L : xL} {R : xR} {x0 : Nat} {x1 : Int32} {x2 : Nat} {x3 : Nat} {Io : xI} {Ro : xR} (hf : fX15_init T I R x0 x1 x2 x3 = some (Io, Ro)) : XMet l D dA s0 yX15_init (ws_ yX15_init cX15_init 4 (none)) (2) (40) [.ref x0, .int x1, .ref x2, .ref x3] T N Z I L R none T N Z Io L Ro 0 0 :=
  x_start (own := RX15) rfl (by decide) (Nat.le_of_ble_eq_true rfl) (lv := [(0, .ref x0), (1, .int x1), (2, .ref x2), (3, .ref x3)]) rfl (fun p e s m below meth c ls X hr hini V hl => wX15_init_e X hr hini hf V hl)
