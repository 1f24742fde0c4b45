set_option maxHeartbeats 400000 in
set_option maxRecDepth 100000 in
theorem zX5_init_b400 {T : xT} {N : xT} {Z : Nat} {S : Nat} {I : xI} {L : xL} {R : xR}  {x0 : Nat} {z0 : Nat} {z1 : Nat} {To : xT} {No : xT} {Zo : Nat} {So : Nat} {Io : xI} {Lo : xL} {Ro : xR}  (hf : fX5_init_b400 T N Z S I L R x0 z0 z1 = some (To, No, Zo, So, Io, Lo, Ro)) : Z ≤ Zo ∧ S ≤ So := by
  unfold fX5_init_b400 at hf
  replace hf := tg_s hf; obtain ⟨ht1, hf⟩ := hf
  replace hf := nm_s hf; obtain ⟨R2, hR2, hf⟩ := hf
  replace hf := tg_s hf; obtain ⟨ht3, hf⟩ := hf
  replace hf := nm_s hf; obtain ⟨I4, hI4, hf⟩ := hf
  replace hf := nm_s hf; obtain ⟨I5, hI5, hf⟩ := hf
  replace hf := bs hf; obtain ⟨a6, ha6, hf⟩ := hf
  replace hf := rA_s hf; obtain ⟨j7, hjj7, htj7, hij7, hf⟩ := hf
  replace hf := nm_s hf; obtain ⟨I8, hI8, hf⟩ := hf
  replace hf := rA_s hf; obtain ⟨j9, hjj9, htj9, hij9, hf⟩ := hf
  replace hf := nm_s hf; obtain ⟨I10, hI10, hf⟩ := hf
  cases hf
  exact ⟨Nat.le_refl _, Nat.le_refl _⟩
set_option maxHeartbeats 400000 in
set_option maxRecDepth 100000 in
theorem wX5_init_b400 {kc ks : Nat} {cells slots : Nat} {p : Program} {l : Launch} {e : Env} {s : State} {m : MethodId} {args : Array Value} {below : List Frame} {meth : Method} {c : Code} {D : va_G} {dA : Nat → ClassId} {s0 : Nat} {T : xT} {N : xT} {Z : Nat} {S : Nat} {I : xI} {L : xL} {R : xR} {H : Heap} {locs : List Loc} {ls : Array Slot}  {x0 : Nat} {z0 : Nat} {z1 : Nat} {To : xT} {No : xT} {Zo : Nat} {So : Nat} {Io : xI} {Lo : xL} {Ro : xR} (X : Cx D dA s0 p m c cX5_init 1 s args RX5 meth) (hr : meth.sig.returnType = none) (hini : meth.name = "<init>")   (hf : fX5_init_b400 T N Z S I L R x0 z0 z1 = some (To, No, Zo, So, Io, Lo, Ro)) (V : Iv D dA s0 s T N Z I L R H locs) (hl : lv_has ls 1 [(0, .ref x0)]) (hB : cells + (Zo - Z) ≤ kc ∧ slots + (So - S) ≤ ks) : W p l e { frames := 1, cells := kc, slots := ks, locals := 20 } s m args below meth c H locs cells slots (MQ below (xQ D dA s0 none To No Zo Io Lo Ro) args s kc ks (fun q => s0 ≤ q)) (F0 m 400 ls [.ref z1, .ref z0]) := by
  have hx := X.1.1
  have hb := X.1.2.1
  unfold fX5_init_b400 at hf
  replace hf := tg_s hf; obtain ⟨ht1, hf⟩ := hf
  replace hf := nm_s hf; obtain ⟨R2, hR2, hf⟩ := hf
  refine x_putr (pc := 400) X V okX5 (by decide) ht1 55 (by decide) q1576 (Or.inr ⟨rfl, hini, rfl⟩) hR2 (fun _ _ _ => rfl) (v := .ref z1) rfl rfl rfl dX5_init_400 (fun H locs V => ?_)
  refine lv_aload_n (pc := 403) hx hb dX5_init_403 rfl (lv_at hl 0 rfl) ?_
  refine lv_iconst (pc := 404) (v := (-1 : Int32)) hx hb dX5_init_404 (by decide) ?_
  replace hf := tg_s hf; obtain ⟨ht3, hf⟩ := hf
  replace hf := nm_s hf; obtain ⟨I4, hI4, hf⟩ := hf
  refine x_puti (pc := 405) X V okX5 (by decide) ht3 56 (by decide) q1577 (Or.inl rfl) hI4 (fun _ _ _ => rfl) rfl rfl dX5_init_405 (fun H locs V => ?_)
  refine lv_aload_n (pc := 408) hx hb dX5_init_408 rfl (lv_at hl 0 rfl) ?_
  refine lv_iconst (pc := 409) (v := (-1 : Int32)) hx hb dX5_init_409 (by decide) ?_
  replace hf := nm_s hf; obtain ⟨I5, hI5, hf⟩ := hf
  refine x_puti (pc := 410) X V okX5 (by decide) ht3 57 (by decide) q1578 (Or.inl rfl) hI5 (fun _ _ _ => rfl) rfl rfl dX5_init_410 (fun H locs V => ?_)
  refine lv_aload_n (pc := 413) hx hb dX5_init_413 rfl (lv_at hl 0 rfl) ?_
  replace hf := bs hf; obtain ⟨a6, ha6, hf⟩ := hf
  refine x_get (pc := 414) X V okX5 ht3 3 (by decide) q1524 (v := va_rf (R2 x0 3)) rfl dX5_init_414 ?_
  refine x_topr ha6 ?_
  refine lv_iconst (pc := 417) (v := (ii 4)) hx hb dX5_init_417 (by decide) ?_
  refine lv_iconst (pc := 418) (v := (-1 : Int32)) hx hb dX5_init_418 (by decide) ?_
  replace hf := rA_s hf; obtain ⟨j7, hjj7, htj7, hij7, hf⟩ := hf
  replace hf := nm_s hf; obtain ⟨I8, hI8, hf⟩ := hf
  refine x_iast (pc := 419) X V htj7 hij7 hjj7 hI8 dX5_init_419 (fun H locs V => ?_)
  refine lv_aload_n (pc := 420) hx hb dX5_init_420 rfl (lv_at hl 0 rfl) ?_
  refine x_get (pc := 421) X V okX5 ht3 3 (by decide) q1524 (v := va_rf (R2 x0 3)) rfl dX5_init_421 ?_
  refine x_topr ha6 ?_
  refine lv_bipush (pc := 424) (v := (ii 6)) hx hb dX5_init_424 (by decide) ?_
  refine lv_iconst (pc := 426) (v := (ii 1)) hx hb dX5_init_426 (by decide) ?_
  replace hf := rA_s hf; obtain ⟨j9, hjj9, htj9, hij9, hf⟩ := hf
  replace hf := nm_s hf; obtain ⟨I10, hI10, hf⟩ := hf
  refine x_iast (pc := 427) X V htj9 hij9 hjj9 hI10 dX5_init_427 (fun H locs V => ?_)
  cases hf
  exact x_vretW (pc := 428) X V hr (by omega) (by omega) dX5_init_428
set_option maxHeartbeats 400000 in
set_option maxRecDepth 100000 in
theorem zX5_init_b387 {T : xT} {N : xT} {Z : Nat} {S : Nat} {I : xI} {L : xL} {R : xR}  {x0 : Nat} {z0 : Nat} {z1 : Nat} {To : xT} {No : xT} {Zo : Nat} {So : Nat} {Io : xI} {Lo : xL} {Ro : xR}  (hf : fX5_init_b387 T N Z S I L R x0 z0 z1 = some (To, No, Zo, So, Io, Lo, Ro)) : Z ≤ Zo ∧ S ≤ So := by
  unfold fX5_init_b387 at hf
  replace hf := tg_s hf; obtain ⟨ht1, hf⟩ := hf
  replace hf := nm_s hf; obtain ⟨R2, hR2, hf⟩ := hf
  replace hf := tg_s hf; obtain ⟨ht3, hf⟩ := hf
  replace hf := nm_s hf; obtain ⟨I4, hI4, hf⟩ := hf
  replace hf := nm_s hf; obtain ⟨T5, hT5, hf⟩ := hf
  replace hf := nm_s hf; obtain ⟨N6, hN6, hf⟩ := hf
  replace hf := nm_s hf; obtain ⟨Z7, hZ7, hf⟩ := hf
  replace hf := nm_s hf; obtain ⟨S8, hS8, hf⟩ := hf
  have hm := zX5_init_b400 hf
  exact ⟨by omega, by omega⟩
set_option maxHeartbeats 400000 in
set_option maxRecDepth 100000 in
theorem wX5_init_b387 {kc ks : Nat} {cells slots : Nat} {p : Program} {l : Launch} {e : Env} {s : State} {m : MethodId} {args : Array Value} {below : List Frame} {meth : Method} {c : Code} {D : va_G} {dA : Nat → ClassId} {s0 : Nat} {T : xT} {N : xT} {Z : Nat} {S : Nat} {I : xI} {L : xL} {R : xR} {H : Heap} {locs : List Loc} {ls : Array Slot}  {x0 : Nat} {z0 : Nat} {z1 : Nat} {To : xT} {No : xT} {Zo : Nat} {So : Nat} {Io : xI} {Lo : xL} {Ro : xR} (X : Cx D dA s0 p m c cX5_init 1 s args RX5 meth) (hr : meth.sig.returnType = none) (hini : meth.name = "<init>")   (hf : fX5_init_b387 T N Z S I L R x0 z0 z1 = some (To, No, Zo, So, Io, Lo, Ro)) (V : Iv D dA s0 s T N Z I L R H locs) (hl : lv_has ls 1 [(0, .ref x0)]) (hB : cells + (Zo - Z) ≤ kc ∧ slots + (So - S) ≤ ks) : W p l e { frames := 1, cells := kc, slots := ks, locals := 20 } s m args below meth c H locs cells slots (MQ below (xQ D dA s0 none To No Zo Io Lo Ro) args s kc ks (fun q => s0 ≤ q)) (F0 m 387 ls [.ref z1, .ref z0]) := by
  have hx := X.1.1
  have hb := X.1.2.1
  unfold fX5_init_b387 at hf
  replace hf := tg_s hf; obtain ⟨ht1, hf⟩ := hf
  replace hf := nm_s hf; obtain ⟨R2, hR2, hf⟩ := hf
  refine x_putr (pc := 387) X V okX5 (by decide) ht1 49 (by decide) q1570 (Or.inr ⟨rfl, hini, rfl⟩) hR2 (fun _ _ _ => rfl) (v := .ref z1) rfl rfl rfl dX5_init_387 (fun H locs V => ?_)
  refine lv_aload_n (pc := 390) hx hb dX5_init_390 rfl (lv_at hl 0 rfl) ?_
  refine lv_iconst (pc := 391) (v := (-1 : Int32)) hx hb dX5_init_391 (by decide) ?_
  replace hf := tg_s hf; obtain ⟨ht3, hf⟩ := hf
  replace hf := nm_s hf; obtain ⟨I4, hI4, hf⟩ := hf
  refine x_puti (pc := 392) X V okX5 (by decide) ht3 52 (by decide) q1573 (Or.inl rfl) hI4 (fun _ _ _ => rfl) rfl rfl dX5_init_392 (fun H locs V => ?_)
  refine lv_aload_n (pc := 395) hx hb dX5_init_395 rfl (lv_at hl 0 rfl) ?_
  refine lv_bipush (pc := 396) (v := (ii 21)) hx hb dX5_init_396 (by decide) ?_
  replace hf := nm_s hf; obtain ⟨T5, hT5, hf⟩ := hf
  replace hf := nm_s hf; obtain ⟨N6, hN6, hf⟩ := hf
  replace hf := nm_s hf; obtain ⟨Z7, hZ7, hf⟩ := hf
  replace hf := nm_s hf; obtain ⟨S8, hS8, hf⟩ := hf
  have hm := zX5_init_b400 hf
  refine x_newa (pc := 398) X V (atype := .int) (k := 0) rfl (by decide) q192 (by decide) hT5 hN6 hZ7 (by show _ ≤ kc; omega) (by show _ ≤ ks; omega) dX5_init_398 (fun H V => ?_)
  exact wX5_init_b400 X hr hini hf V (lv_sub hl [0] rfl) ⟨by omega, by omega⟩
set_option maxHeartbeats 400000 in
set_option maxRecDepth 100000 in
theorem zX5_init_b355 {T : xT} {N : xT} {Z : Nat} {S : Nat} {I : xI} {L : xL} {R : xR}  {x0 : Nat} {z0 : Nat} {z1 : Nat} {To : xT} {No : xT} {Zo : Nat} {So : Nat} {Io : xI} {Lo : xL} {Ro : xR}  (hf : fX5_init_b355 T N Z S I L R x0 z0 z1 = some (To, No, Zo, So, Io, Lo, Ro)) : Z ≤ Zo ∧ S ≤ So := by
  unfold fX5_init_b355 at hf
  replace hf := rA_s hf; obtain ⟨j1, hjj1, htj1, hij1, hf⟩ := hf
  replace hf := nm_s hf; obtain ⟨L2, hL2, hf⟩ := hf
  replace hf := rA_s hf; obtain ⟨j3, hjj3, htj3, hij3, hf⟩ := hf
  replace hf := nm_s hf; obtain ⟨L4, hL4, hf⟩ := hf
  replace hf := rA_s hf; obtain ⟨j5, hjj5, htj5, hij5, hf⟩ := hf
  replace hf := nm_s hf; obtain ⟨L6, hL6, hf⟩ := hf
  replace hf := rA_s hf; obtain ⟨j7, hjj7, htj7, hij7, hf⟩ := hf
  replace hf := nm_s hf; obtain ⟨L8, hL8, hf⟩ := hf
  replace hf := tg_s hf; obtain ⟨ht9, hf⟩ := hf
  replace hf := nm_s hf; obtain ⟨R10, hR10, hf⟩ := hf
  replace hf := nm_s hf; obtain ⟨T11, hT11, hf⟩ := hf
  replace hf := nm_s hf; obtain ⟨N12, hN12, hf⟩ := hf
  replace hf := nm_s hf; obtain ⟨Z13, hZ13, hf⟩ := hf
  replace hf := nm_s hf; obtain ⟨S14, hS14, hf⟩ := hf
  have hm := zX5_init_b387 hf
  exact ⟨by omega, by omega⟩
set_option maxHeartbeats 400000 in
set_option maxRecDepth 100000 in
theorem wX5_init_b355 {kc ks : Nat} {cells slots : Nat} {p : Program} {l : Launch} {e : Env} {s : State} {m : MethodId} {args : Array Value} {below : List Frame} {meth : Method} {c : Code} {D : va_G} {dA : Nat → ClassId} {s0 : Nat} {T : xT} {N : xT} {Z : Nat} {S : Nat} {I : xI} {L : xL} {R : xR} {H : Heap} {locs : List Loc} {ls : Array Slot}  {x0 : Nat} {z0 : Nat} {z1 : Nat} {To : xT} {No : xT} {Zo : Nat} {So : Nat} {Io : xI} {Lo : xL} {Ro : xR} (X : Cx D dA s0 p m c cX5_init 1 s args RX5 meth) (hr : meth.sig.returnType = none) (hini : meth.name = "<init>")   (hf : fX5_init_b355 T N Z S I L R x0 z0 z1 = some (To, No, Zo, So, Io, Lo, Ro)) (V : Iv D dA s0 s T N Z I L R H locs) (hl : lv_has ls 1 [(0, .ref x0)]) (hB : cells + (Zo - Z) ≤ kc ∧ slots + (So - S) ≤ ks) : W p l e { frames := 1, cells := kc, slots := ks, locals := 20 } s m args below meth c H locs cells slots (MQ below (xQ D dA s0 none To No Zo Io Lo Ro) args s kc ks (fun q => s0 ≤ q)) (F0 m 355 ls [.ref z1, .ref z0]) := by
  have hx := X.1.1
  have hb := X.1.2.1
  unfold fX5_init_b355 at hf
  refine lv_dup (pc := 355) hx hb dX5_init_355 rfl ?_
  refine lv_iconst (pc := 356) (v := (ii 0)) hx hb dX5_init_356 (by decide) ?_
  refine lv_ldc2 (pc := 357) (v := (jj 773263538)) hx hb X.1.2.2.2.1 (X.1.2.2.2.2 _ q1517) dX5_init_357 ?_
  replace hf := rA_s hf; obtain ⟨j1, hjj1, htj1, hij1, hf⟩ := hf
  replace hf := nm_s hf; obtain ⟨L2, hL2, hf⟩ := hf
  refine x_last (pc := 360) X V htj1 hij1 hjj1 hL2 dX5_init_360 (fun H locs V => ?_)
  refine lv_dup (pc := 361) hx hb dX5_init_361 rfl ?_
  refine lv_iconst (pc := 362) (v := (ii 1)) hx hb dX5_init_362 (by decide) ?_
  refine lv_ldc2 (pc := 363) (v := (jj 3673)) hx hb X.1.2.2.2.1 (X.1.2.2.2.2 _ q1518) dX5_init_363 ?_
  replace hf := rA_s hf; obtain ⟨j3, hjj3, htj3, hij3, hf⟩ := hf
  replace hf := nm_s hf; obtain ⟨L4, hL4, hf⟩ := hf
  refine x_last (pc := 366) X V htj3 hij3 hjj3 hL4 dX5_init_366 (fun H locs V => ?_)
  refine lv_dup (pc := 367) hx hb dX5_init_367 rfl ?_
  refine lv_iconst (pc := 368) (v := (ii 2)) hx hb dX5_init_368 (by decide) ?_
  refine lv_ldc2 (pc := 369) (v := (jj 398372)) hx hb X.1.2.2.2.1 (X.1.2.2.2.2 _ q1519) dX5_init_369 ?_
  replace hf := rA_s hf; obtain ⟨j5, hjj5, htj5, hij5, hf⟩ := hf
  replace hf := nm_s hf; obtain ⟨L6, hL6, hf⟩ := hf
  refine x_last (pc := 372) X V htj5 hij5 hjj5 hL6 dX5_init_372 (fun H locs V => ?_)
  refine lv_dup (pc := 373) hx hb dX5_init_373 rfl ?_
  refine lv_iconst (pc := 374) (v := (ii 3)) hx hb dX5_init_374 (by decide) ?_
  refine lv_ldc2 (pc := 375) (v := (jj 525939)) hx hb X.1.2.2.2.1 (X.1.2.2.2.2 _ q1520) dX5_init_375 ?_
  replace hf := rA_s hf; obtain ⟨j7, hjj7, htj7, hij7, hf⟩ := hf
  replace hf := nm_s hf; obtain ⟨L8, hL8, hf⟩ := hf
  refine x_last (pc := 378) X V htj7 hij7 hjj7 hL8 dX5_init_378 (fun H locs V => ?_)
  replace hf := tg_s hf; obtain ⟨ht9, hf⟩ := hf
  replace hf := nm_s hf; obtain ⟨R10, hR10, hf⟩ := hf
  refine x_putr (pc := 379) X V okX5 (by decide) ht9 48 (by decide) q1569 (Or.inr ⟨rfl, hini, rfl⟩) hR10 (fun _ _ _ => rfl) (v := .ref z1) rfl rfl rfl dX5_init_379 (fun H locs V => ?_)
  refine lv_aload_n (pc := 382) hx hb dX5_init_382 rfl (lv_at hl 0 rfl) ?_
  refine lv_bipush (pc := 383) (v := (ii 96)) hx hb dX5_init_383 (by decide) ?_
  replace hf := nm_s hf; obtain ⟨T11, hT11, hf⟩ := hf
  replace hf := nm_s hf; obtain ⟨N12, hN12, hf⟩ := hf
  replace hf := nm_s hf; obtain ⟨Z13, hZ13, hf⟩ := hf
  replace hf := nm_s hf; obtain ⟨S14, hS14, hf⟩ := hf
  have hm := zX5_init_b387 hf
  refine x_newa (pc := 385) X V (atype := .int) (k := 0) rfl (by decide) q192 (by decide) hT11 hN12 hZ13 (by show _ ≤ kc; omega) (by show _ ≤ ks; omega) dX5_init_385 (fun H V => ?_)
  exact wX5_init_b387 X hr hini hf V (lv_sub hl [0] rfl) ⟨by omega, by omega⟩
set_option maxHeartbeats 400000 in
set_option maxRecDepth 100000 in
theorem zX5_init_b348 {T : xT} {N : xT} {Z : Nat} {S : Nat} {I : xI} {L : xL} {R : xR}  {x0 : Nat} {z0 : Nat} {z1 : Nat} {To : xT} {No : xT} {Zo : Nat} {So : Nat} {Io : xI} {Lo : xL} {Ro : xR}  (hf : fX5_init_b348 T N Z S I L R x0 z0 z1 = some (To, No, Zo, So, Io, Lo, Ro)) : Z ≤ Zo ∧ S ≤ So := by
  unfold fX5_init_b348 at hf
  replace hf := tg_s hf; obtain ⟨ht1, hf⟩ := hf
  replace hf := nm_s hf; obtain ⟨R2, hR2, hf⟩ := hf
  replace hf := nm_s hf; obtain ⟨T3, hT3, hf⟩ := hf
  replace hf := nm_s hf; obtain ⟨N4, hN4, hf⟩ := hf
  replace hf := nm_s hf; obtain ⟨Z5, hZ5, hf⟩ := hf
  replace hf := nm_s hf; obtain ⟨S6, hS6, hf⟩ := hf
  have hm := zX5_init_b355 hf
  exact ⟨by omega, by omega⟩
set_option maxHeartbeats 400000 in
set_option maxRecDepth 100000 in
theorem wX5_init_b348 {kc ks : Nat} {cells slots : Nat} {p : Program} {l : Launch} {e : Env} {s : State} {m : MethodId} {args : Array Value} {below : List Frame} {meth : Method} {c : Code} {D : va_G} {dA : Nat → ClassId} {s0 : Nat} {T : xT} {N : xT} {Z : Nat} {S : Nat} {I : xI} {L : xL} {R : xR} {H : Heap} {locs : List Loc} {ls : Array Slot}  {x0 : Nat} {z0 : Nat} {z1 : Nat} {To : xT} {No : xT} {Zo : Nat} {So : Nat} {Io : xI} {Lo : xL} {Ro : xR} (X : Cx D dA s0 p m c cX5_init 1 s args RX5 meth) (hr : meth.sig.returnType = none) (hini : meth.name = "<init>")   (hf : fX5_init_b348 T N Z S I L R x0 z0 z1 = some (To, No, Zo, So, Io, Lo, Ro)) (V : Iv D dA s0 s T N Z I L R H locs) (hl : lv_has ls 1 [(0, .ref x0)]) (hB : cells + (Zo - Z) ≤ kc ∧ slots + (So - S) ≤ ks) : W p l e { frames := 1, cells := kc, slots := ks, locals := 20 } s m args below meth c H locs cells slots (MQ below (xQ D dA s0 none To No Zo Io Lo Ro) args s kc ks (fun q => s0 ≤ q)) (F0 m 348 ls [.ref z1, .ref z0]) := by
  have hx := X.1.1
  have hb := X.1.2.1
  unfold fX5_init_b348 at hf
  replace hf := tg_s hf; obtain ⟨ht1, hf⟩ := hf
  replace hf := nm_s hf; obtain ⟨R2, hR2, hf⟩ := hf
  refine x_putr (pc := 348) X V okX5 (by decide) ht1 47 (by decide) q1568 (Or.inr ⟨rfl, hini, rfl⟩) hR2 (fun _ _ _ => rfl) (v := .ref z1) rfl rfl rfl dX5_init_348 (fun H locs V => ?_)
  refine lv_aload_n (pc := 351) hx hb dX5_init_351 rfl (lv_at hl 0 rfl) ?_
  refine lv_iconst (pc := 352) (v := (ii 4)) hx hb dX5_init_352 (by decide) ?_
  replace hf := nm_s hf; obtain ⟨T3, hT3, hf⟩ := hf
  replace hf := nm_s hf; obtain ⟨N4, hN4, hf⟩ := hf
  replace hf := nm_s hf; obtain ⟨Z5, hZ5, hf⟩ := hf
  replace hf := nm_s hf; obtain ⟨S6, hS6, hf⟩ := hf
  have hm := zX5_init_b355 hf
  refine x_newa (pc := 353) X V (atype := .long) (k := 3) rfl (by decide) q359 (by decide) hT3 hN4 hZ5 (by show _ ≤ kc; omega) (by show _ ≤ ks; omega) dX5_init_353 (fun H V => ?_)
  exact wX5_init_b355 X hr hini hf V (lv_sub hl [0] rfl) ⟨by omega, by omega⟩
set_option maxHeartbeats 400000 in
set_option maxRecDepth 100000 in
theorem zX5_init_b340 {T : xT} {N : xT} {Z : Nat} {S : Nat} {I : xI} {L : xL} {R : xR}  {x0 : Nat} {z0 : Nat} {z1 : Nat} {To : xT} {No : xT} {Zo : Nat} {So : Nat} {Io : xI} {Lo : xL} {Ro : xR}  (hf : fX5_init_b340 T N Z S I L R x0 z0 z1 = some (To, No, Zo, So, Io, Lo, Ro)) : Z ≤ Zo ∧ S ≤ So := by
  unfold fX5_init_b340 at hf
  replace hf := tg_s hf; obtain ⟨ht1, hf⟩ := hf
  replace hf := nm_s hf; obtain ⟨R2, hR2, hf⟩ := hf
  replace hf := nm_s hf; obtain ⟨T3, hT3, hf⟩ := hf
  replace hf := nm_s hf; obtain ⟨N4, hN4, hf⟩ := hf
  replace hf := nm_s hf; obtain ⟨Z5, hZ5, hf⟩ := hf
  replace hf := nm_s hf; obtain ⟨S6, hS6, hf⟩ := hf
  have hm := zX5_init_b348 hf
  exact ⟨by omega, by omega⟩
set_option maxHeartbeats 400000 in
set_option maxRecDepth 100000 in
theorem wX5_init_b340 {kc ks : Nat} {cells slots : Nat} {p : Program} {l : Launch} {e : Env} {s : State} {m : MethodId} {args : Array Value} {below : List Frame} {meth : Method} {c : Code} {D : va_G} {dA : Nat → ClassId} {s0 : Nat} {T : xT} {N : xT} {Z : Nat} {S : Nat} {I : xI} {L : xL} {R : xR} {H : Heap} {locs : List Loc} {ls : Array Slot}  {x0 : Nat} {z0 : Nat} {z1 : Nat} {To : xT} {No : xT} {Zo : Nat} {So : Nat} {Io : xI} {Lo : xL} {Ro : xR} (X : Cx D dA s0 p m c cX5_init 1 s args RX5 meth) (hr : meth.sig.returnType = none) (hini : meth.name = "<init>")   (hf : fX5_init_b340 T N Z S I L R x0 z0 z1 = some (To, No, Zo, So, Io, Lo, Ro)) (V : Iv D dA s0 s T N Z I L R H locs) (hl : lv_has ls 1 [(0, .ref x0)]) (hB : cells + (Zo - Z) ≤ kc ∧ slots + (So - S) ≤ ks) : W p l e { frames := 1, cells := kc, slots := ks, locals := 20 } s m args below meth c H locs cells slots (MQ below (xQ D dA s0 none To No Zo Io Lo Ro) args s kc ks (fun q => s0 ≤ q)) (F0 m 340 ls [.ref z1, .ref z0]) := by
  have hx := X.1.1
  have hb := X.1.2.1
  unfold fX5_init_b340 at hf
  replace hf := tg_s hf; obtain ⟨ht1, hf⟩ := hf
  replace hf := nm_s hf; obtain ⟨R2, hR2, hf⟩ := hf
  refine x_putr (pc := 340) X V okX5 (by decide) ht1 46 (by decide) q1567 (Or.inr ⟨rfl, hini, rfl⟩) hR2 (fun _ _ _ => rfl) (v := .ref z1) rfl rfl rfl dX5_init_340 (fun H locs V => ?_)
  refine lv_aload_n (pc := 343) hx hb dX5_init_343 rfl (lv_at hl 0 rfl) ?_
  refine lv_bipush (pc := 344) (v := (ii 21)) hx hb dX5_init_344 (by decide) ?_
  replace hf := nm_s hf; obtain ⟨T3, hT3, hf⟩ := hf
  replace hf := nm_s hf; obtain ⟨N4, hN4, hf⟩ := hf
  replace hf := nm_s hf; obtain ⟨Z5, hZ5, hf⟩ := hf
  replace hf := nm_s hf; obtain ⟨S6, hS6, hf⟩ := hf
  have hm := zX5_init_b348 hf
  refine x_newa (pc := 346) X V (atype := .long) (k := 3) rfl (by decide) q359 (by decide) hT3 hN4 hZ5 (by show _ ≤ kc; omega) (by show _ ≤ ks; omega) dX5_init_346 (fun H V => ?_)
  exact wX5_init_b348 X hr hini hf V (lv_sub hl [0] rfl) ⟨by omega, by omega⟩
set_option maxHeartbeats 400000 in
set_option maxRecDepth 100000 in
theorem zX5_init_b331 {T : xT} {N : xT} {Z : Nat} {S : Nat} {I : xI} {L : xL} {R : xR}  {x0 : Nat} {z0 : Nat} {z1 : Nat} {To : xT} {No : xT} {Zo : Nat} {So : Nat} {Io : xI} {Lo : xL} {Ro : xR}  (hf : fX5_init_b331 T N Z S I L R x0 z0 z1 = some (To, No, Zo, So, Io, Lo, Ro)) : Z ≤ Zo ∧ S ≤ So := by
  unfold fX5_init_b331 at hf
  replace hf := tg_s hf; obtain ⟨ht1, hf⟩ := hf
  replace hf := nm_s hf; obtain ⟨R2, hR2, hf⟩ := hf
  replace hf := nm_s hf; obtain ⟨T3, hT3, hf⟩ := hf
  replace hf := nm_s hf; obtain ⟨N4, hN4, hf⟩ := hf
  replace hf := nm_s hf; obtain ⟨Z5, hZ5, hf⟩ := hf
  replace hf := nm_s hf; obtain ⟨S6, hS6, hf⟩ := hf
  have hm := zX5_init_b340 hf
  exact ⟨by omega, by omega⟩
set_option maxHeartbeats 400000 in
set_option maxRecDepth 100000 in
theorem wX5_init_b331 {kc ks : Nat} {cells slots : Nat} {p : Program} {l : Launch} {e : Env} {s : State} {m : MethodId} {args : Array Value} {below : List Frame} {meth : Method} {c : Code} {D : va_G} {dA : Nat → ClassId} {s0 : Nat} {T : xT} {N : xT} {Z : Nat} {S : Nat} {I : xI} {L : xL} {R : xR} {H : Heap} {locs : List Loc} {ls : Array Slot}  {x0 : Nat} {z0 : Nat} {z1 : Nat} {To : xT} {No : xT} {Zo : Nat} {So : Nat} {Io : xI} {Lo : xL} {Ro : xR} (X : Cx D dA s0 p m c cX5_init 1 s args RX5 meth) (hr : meth.sig.returnType = none) (hini : meth.name = "<init>")   (hf : fX5_init_b331 T N Z S I L R x0 z0 z1 = some (To, No, Zo, So, Io, Lo, Ro)) (V : Iv D dA s0 s T N Z I L R H locs) (hl : lv_has ls 1 [(0, .ref x0)]) (hB : cells + (Zo - Z) ≤ kc ∧ slots + (So - S) ≤ ks) : W p l e { frames := 1, cells := kc, slots := ks, locals := 20 } s m args below meth c H locs cells slots (MQ below (xQ D dA s0 none To No Zo Io Lo Ro) args s kc ks (fun q => s0 ≤ q)) (F0 m 331 ls [.ref z1, .ref z0]) := by
  have hx := X.1.1
  have hb := X.1.2.1
  unfold fX5_init_b331 at hf
  replace hf := tg_s hf; obtain ⟨ht1, hf⟩ := hf
  replace hf := nm_s hf; obtain ⟨R2, hR2, hf⟩ := hf
  refine x_putr (pc := 331) X V okX5 (by decide) ht1 45 (by decide) q1566 (Or.inr ⟨rfl, hini, rfl⟩) hR2 (fun _ _ _ => rfl) (v := .ref z1) rfl rfl rfl dX5_init_331 (fun H locs V => ?_)
  refine lv_aload_n (pc := 334) hx hb dX5_init_334 rfl (lv_at hl 0 rfl) ?_
  refine lv_sipush (pc := 335) (v := (ii 256)) hx hb dX5_init_335 (by decide) ?_
  replace hf := nm_s hf; obtain ⟨T3, hT3, hf⟩ := hf
  replace hf := nm_s hf; obtain ⟨N4, hN4, hf⟩ := hf
  replace hf := nm_s hf; obtain ⟨Z5, hZ5, hf⟩ := hf
  replace hf := nm_s hf; obtain ⟨S6, hS6, hf⟩ := hf
  have hm := zX5_init_b340 hf
  refine x_newa (pc := 338) X V (atype := .int) (k := 0) rfl (by decide) q192 (by decide) hT3 hN4 hZ5 (by show _ ≤ kc; omega) (by show _ ≤ ks; omega) dX5_init_338 (fun H V => ?_)
  exact wX5_init_b340 X hr hini hf V (lv_sub hl [0] rfl) ⟨by omega, by omega⟩
set_option maxHeartbeats 400000 in
set_option maxRecDepth 100000 in
theorem zX5_init_b323 {T : xT} {N : xT} {Z : Nat} {S : Nat} {I : xI} {L : xL} {R : xR}  {x0 : Nat} {z0 : Nat} {z1 : Nat} {To : xT} {No : xT} {Zo : Nat} {So : Nat} {Io : xI} {Lo : xL} {Ro : xR}  (hf : fX5_init_b323 T N Z S I L R x0 z0 z1 = some (To, No, Zo, So, Io, Lo, Ro)) : Z ≤ Zo ∧ S ≤ So := by
  unfold fX5_init_b323 at hf
  replace hf := tg_s hf; obtain ⟨ht1, hf⟩ := hf
  replace hf := nm_s hf; obtain ⟨R2, hR2, hf⟩ := hf
  replace hf := nm_s hf; obtain ⟨T3, hT3, hf⟩ := hf
  replace hf := nm_s hf; obtain ⟨N4, hN4, hf⟩ := hf
  replace hf := nm_s hf; obtain ⟨Z5, hZ5, hf⟩ := hf
  replace hf := nm_s hf; obtain ⟨S6, hS6, hf⟩ := hf
  have hm := zX5_init_b331 hf
  exact ⟨by omega, by omega⟩
set_option maxHeartbeats 400000 in
set_option maxRecDepth 100000 in
theorem wX5_init_b323 {kc ks : Nat} {cells slots : Nat} {p : Program} {l : Launch} {e : Env} {s : State} {m : MethodId} {args : Array Value} {below : List Frame} {meth : Method} {c : Code} {D : va_G} {dA : Nat → ClassId} {s0 : Nat} {T : xT} {N : xT} {Z : Nat} {S : Nat} {I : xI} {L : xL} {R : xR} {H : Heap} {locs : List Loc} {ls : Array Slot}  {x0 : Nat} {z0 : Nat} {z1 : Nat} {To : xT} {No : xT} {Zo : Nat} {So : Nat} {Io : xI} {Lo : xL} {Ro : xR} (X : Cx D dA s0 p m c cX5_init 1 s args RX5 meth) (hr : meth.sig.returnType = none) (hini : meth.name = "<init>")   (hf : fX5_init_b323 T N Z S I L R x0 z0 z1 = some (To, No, Zo, So, Io, Lo, Ro)) (V : Iv D dA s0 s T N Z I L R H locs) (hl : lv_has ls 1 [(0, .ref x0)]) (hB : cells + (Zo - Z) ≤ kc ∧ slots + (So - S) ≤ ks) : W p l e { frames := 1, cells := kc, slots := ks, locals := 20 } s m args below meth c H locs cells slots (MQ below (xQ D dA s0 none To No Zo Io Lo Ro) args s kc ks (fun q => s0 ≤ q)) (F0 m 323 ls [.ref z1, .ref z0]) := by
  have hx := X.1.1
  have hb := X.1.2.1
  unfold fX5_init_b323 at hf
  replace hf := tg_s hf; obtain ⟨ht1, hf⟩ := hf
  replace hf := nm_s hf; obtain ⟨R2, hR2, hf⟩ := hf
  refine x_putr (pc := 323) X V okX5 (by decide) ht1 44 (by decide) q1565 (Or.inr ⟨rfl, hini, rfl⟩) hR2 (fun _ _ _ => rfl) (v := .ref z1) rfl rfl rfl dX5_init_323 (fun H locs V => ?_)
  refine lv_aload_n (pc := 326) hx hb dX5_init_326 rfl (lv_at hl 0 rfl) ?_
  refine lv_bipush (pc := 327) (v := (ii 11)) hx hb dX5_init_327 (by decide) ?_
  replace hf := nm_s hf; obtain ⟨T3, hT3, hf⟩ := hf
  replace hf := nm_s hf; obtain ⟨N4, hN4, hf⟩ := hf
  replace hf := nm_s hf; obtain ⟨Z5, hZ5, hf⟩ := hf
  replace hf := nm_s hf; obtain ⟨S6, hS6, hf⟩ := hf
  have hm := zX5_init_b331 hf
  refine x_newa (pc := 329) X V (atype := .int) (k := 0) rfl (by decide) q192 (by decide) hT3 hN4 hZ5 (by show _ ≤ kc; omega) (by show _ ≤ ks; omega) dX5_init_329 (fun H V => ?_)
  exact wX5_init_b331 X hr hini hf V (lv_sub hl [0] rfl) ⟨by omega, by omega⟩
set_option maxHeartbeats 400000 in
set_option maxRecDepth 100000 in
theorem zX5_init_b315 {T : xT} {N : xT} {Z : Nat} {S : Nat} {I : xI} {L : xL} {R : xR}  {x0 : Nat} {z0 : Nat} {z1 : Nat} {To : xT} {No : xT} {Zo : Nat} {So : Nat} {Io : xI} {Lo : xL} {Ro : xR}  (hf : fX5_init_b315 T N Z S I L R x0 z0 z1 = some (To, No, Zo, So, Io, Lo, Ro)) : Z ≤ Zo ∧ S ≤ So := by
  unfold fX5_init_b315 at hf
  replace hf := tg_s hf; obtain ⟨ht1, hf⟩ := hf
  replace hf := nm_s hf; obtain ⟨R2, hR2, hf⟩ := hf
  replace hf := nm_s hf; obtain ⟨T3, hT3, hf⟩ := hf
  replace hf := nm_s hf; obtain ⟨N4, hN4, hf⟩ := hf
  replace hf := nm_s hf; obtain ⟨Z5, hZ5, hf⟩ := hf
  replace hf := nm_s hf; obtain ⟨S6, hS6, hf⟩ := hf
  have hm := zX5_init_b323 hf
  exact ⟨by omega, by omega⟩
set_option maxHeartbeats 400000 in
set_option maxRecDepth 100000 in
theorem wX5_init_b315 {kc ks : Nat} {cells slots : Nat} {p : Program} {l : Launch} {e : Env} {s : State} {m : MethodId} {args : Array Value} {below : List Frame} {meth : Method} {c : Code} {D : va_G} {dA : Nat → ClassId} {s0 : Nat} {T : xT} {N : xT} {Z : Nat} {S : Nat} {I : xI} {L : xL} {R : xR} {H : Heap} {locs : List Loc} {ls : Array Slot}  {x0 : Nat} {z0 : Nat} {z1 : Nat} {To : xT} {No : xT} {Zo : Nat} {So : Nat} {Io : xI} {Lo : xL} {Ro : xR} (X : Cx D dA s0 p m c cX5_init 1 s args RX5 meth) (hr : meth.sig.returnType = none) (hini : meth.name = "<init>")   (hf : fX5_init_b315 T N Z S I L R x0 z0 z1 = some (To, No, Zo, So, Io, Lo, Ro)) (V : Iv D dA s0 s T N Z I L R H locs) (hl : lv_has ls 1 [(0, .ref x0)]) (hB : cells + (Zo - Z) ≤ kc ∧ slots + (So - S) ≤ ks) : W p l e { frames := 1, cells := kc, slots := ks, locals := 20 } s m args below meth c H locs cells slots (MQ below (xQ D dA s0 none To No Zo Io Lo Ro) args s kc ks (fun q => s0 ≤ q)) (F0 m 315 ls [.ref z1, .ref z0]) := by
  have hx := X.1.1
  have hb := X.1.2.1
  unfold fX5_init_b315 at hf
  replace hf := tg_s hf; obtain ⟨ht1, hf⟩ := hf
  replace hf := nm_s hf; obtain ⟨R2, hR2, hf⟩ := hf
  refine x_putr (pc := 315) X V okX5 (by decide) ht1 43 (by decide) q1564 (Or.inr ⟨rfl, hini, rfl⟩) hR2 (fun _ _ _ => rfl) (v := .ref z1) rfl rfl rfl dX5_init_315 (fun H locs V => ?_)
  refine lv_aload_n (pc := 318) hx hb dX5_init_318 rfl (lv_at hl 0 rfl) ?_
  refine lv_bipush (pc := 319) (v := (ii 8)) hx hb dX5_init_319 (by decide) ?_
  replace hf := nm_s hf; obtain ⟨T3, hT3, hf⟩ := hf
  replace hf := nm_s hf; obtain ⟨N4, hN4, hf⟩ := hf
  replace hf := nm_s hf; obtain ⟨Z5, hZ5, hf⟩ := hf
  replace hf := nm_s hf; obtain ⟨S6, hS6, hf⟩ := hf
  have hm := zX5_init_b323 hf
  refine x_newa (pc := 321) X V (atype := .int) (k := 0) rfl (by decide) q192 (by decide) hT3 hN4 hZ5 (by show _ ≤ kc; omega) (by show _ ≤ ks; omega) dX5_init_321 (fun H V => ?_)
  exact wX5_init_b323 X hr hini hf V (lv_sub hl [0] rfl) ⟨by omega, by omega⟩
set_option maxHeartbeats 400000 in
set_option maxRecDepth 100000 in
theorem zX5_init_b307 {T : xT} {N : xT} {Z : Nat} {S : Nat} {I : xI} {L : xL} {R : xR}  {x0 : Nat} {z0 : Nat} {z1 : Nat} {To : xT} {No : xT} {Zo : Nat} {So : Nat} {Io : xI} {Lo : xL} {Ro : xR}  (hf : fX5_init_b307 T N Z S I L R x0 z0 z1 = some (To, No, Zo, So, Io, Lo, Ro)) : Z ≤ Zo ∧ S ≤ So := by
  unfold fX5_init_b307 at hf
  replace hf := tg_s hf; obtain ⟨ht1, hf⟩ := hf
  replace hf := nm_s hf; obtain ⟨R2, hR2, hf⟩ := hf
  replace hf := nm_s hf; obtain ⟨T3, hT3, hf⟩ := hf
  replace hf := nm_s hf; obtain ⟨N4, hN4, hf⟩ := hf
  replace hf := nm_s hf; obtain ⟨Z5, hZ5, hf⟩ := hf
  replace hf := nm_s hf; obtain ⟨S6, hS6, hf⟩ := hf
  have hm := zX5_init_b315 hf
  exact ⟨by omega, by omega⟩
set_option maxHeartbeats 400000 in
set_option maxRecDepth 100000 in
theorem wX5_init_b307 {kc ks : Nat} {cells slots : Nat} {p : Program} {l : Launch} {e : Env} {s : State} {m : MethodId} {args : Array Value} {below : List Frame} {meth : Method} {c : Code} {D : va_G} {dA : Nat → ClassId} {s0 : Nat} {T : xT} {N : xT} {Z : Nat} {S : Nat} {I : xI} {L : xL} {R : xR} {H : Heap} {locs : List Loc} {ls : Array Slot}  {x0 : Nat} {z0 : Nat} {z1 : Nat} {To : xT} {No : xT} {Zo : Nat} {So : Nat} {Io : xI} {Lo : xL} {Ro : xR} (X : Cx D dA s0 p m c cX5_init 1 s args RX5 meth) (hr : meth.sig.returnType = none) (hini : meth.name = "<init>")   (hf : fX5_init_b307 T N Z S I L R x0 z0 z1 = some (To, No, Zo, So, Io, Lo, Ro)) (V : Iv D dA s0 s T N Z I L R H locs) (hl : lv_has ls 1 [(0, .ref x0)]) (hB : cells + (Zo - Z) ≤ kc ∧ slots + (So - S) ≤ ks) : W p l e { frames := 1, cells := kc, slots := ks, locals := 20 } s m args below meth c H locs cells slots (MQ below (xQ D dA s0 none To No Zo Io Lo Ro) args s kc ks (fun q => s0 ≤ q)) (F0 m 307 ls [.ref z1, .ref z0]) := by
  have hx := X.1.1
  have hb := X.1.2.1
  unfold fX5_init_b307 at hf
  replace hf := tg_s hf; obtain ⟨ht1, hf⟩ := hf
  replace hf := nm_s hf; obtain ⟨R2, hR2, hf⟩ := hf
  refine x_putr (pc := 307) X V okX5 (by decide) ht1 42 (by decide) q1563 (Or.inr ⟨rfl, hini, rfl⟩) hR2 (fun _ _ _ => rfl) (v := .ref z1) rfl rfl rfl dX5_init_307 (fun H locs V => ?_)
  refine lv_aload_n (pc := 310) hx hb dX5_init_310 rfl (lv_at hl 0 rfl) ?_
  refine lv_bipush (pc := 311) (v := (ii 8)) hx hb dX5_init_311 (by decide) ?_
  replace hf := nm_s hf; obtain ⟨T3, hT3, hf⟩ := hf
  replace hf := nm_s hf; obtain ⟨N4, hN4, hf⟩ := hf
  replace hf := nm_s hf; obtain ⟨Z5, hZ5, hf⟩ := hf
  replace hf := nm_s hf; obtain ⟨S6, hS6, hf⟩ := hf
  have hm := zX5_init_b315 hf
  refine x_newa (pc := 313) X V (atype := .int) (k := 0) rfl (by decide) q192 (by decide) hT3 hN4 hZ5 (by show _ ≤ kc; omega) (by show _ ≤ ks; omega) dX5_init_313 (fun H V => ?_)
  exact wX5_init_b315 X hr hini hf V (lv_sub hl [0] rfl) ⟨by omega, by omega⟩
set_option maxHeartbeats 400000 in
set_option maxRecDepth 100000 in
theorem zX5_init_b299 {T : xT} {N : xT} {Z : Nat} {S : Nat} {I : xI} {L : xL} {R : xR}  {x0 : Nat} {z0 : Nat} {z1 : Nat} {To : xT} {No : xT} {Zo : Nat} {So : Nat} {Io : xI} {Lo : xL} {Ro : xR}  (hf : fX5_init_b299 T N Z S I L R x0 z0 z1 = some (To, No, Zo, So, Io, Lo, Ro)) : Z ≤ Zo ∧ S ≤ So := by
  unfold fX5_init_b299 at hf
  replace hf := tg_s hf; obtain ⟨ht1, hf⟩ := hf
  replace hf := nm_s hf; obtain ⟨R2, hR2, hf⟩ := hf
  replace hf := nm_s hf; obtain ⟨T3, hT3, hf⟩ := hf
  replace hf := nm_s hf; obtain ⟨N4, hN4, hf⟩ := hf
  replace hf := nm_s hf; obtain ⟨Z5, hZ5, hf⟩ := hf
  replace hf := nm_s hf; obtain ⟨S6, hS6, hf⟩ := hf
  have hm := zX5_init_b307 hf
  exact ⟨by omega, by omega⟩
set_option maxHeartbeats 400000 in
set_option maxRecDepth 100000 in
theorem wX5_init_b299 {kc ks : Nat} {cells slots : Nat} {p : Program} {l : Launch} {e : Env} {s : State} {m : MethodId} {args : Array Value} {below : List Frame} {meth : Method} {c : Code} {D : va_G} {dA : Nat → ClassId} {s0 : Nat} {T : xT} {N : xT} {Z : Nat} {S : Nat} {I : xI} {L : xL} {R : xR} {H : Heap} {locs : List Loc} {ls : Array Slot}  {x0 : Nat} {z0 : Nat} {z1 : Nat} {To : xT} {No : xT} {Zo : Nat} {So : Nat} {Io : xI} {Lo : xL} {Ro : xR} (X : Cx D dA s0 p m c cX5_init 1 s args RX5 meth) (hr : meth.sig.returnType = none) (hini : meth.name = "<init>")   (hf : fX5_init_b299 T N Z S I L R x0 z0 z1 = some (To, No, Zo, So, Io, Lo, Ro)) (V : Iv D dA s0 s T N Z I L R H locs) (hl : lv_has ls 1 [(0, .ref x0)]) (hB : cells + (Zo - Z) ≤ kc ∧ slots + (So - S) ≤ ks) : W p l e { frames := 1, cells := kc, slots := ks, locals := 20 } s m args below meth c H locs cells slots (MQ below (xQ D dA s0 none To No Zo Io Lo Ro) args s kc ks (fun q => s0 ≤ q)) (F0 m 299 ls [.ref z1, .ref z0]) := by
  have hx := X.1.1
  have hb := X.1.2.1
  unfold fX5_init_b299 at hf
  replace hf := tg_s hf; obtain ⟨ht1, hf⟩ := hf
  replace hf := nm_s hf; obtain ⟨R2, hR2, hf⟩ := hf
  refine x_putr (pc := 299) X V okX5 (by decide) ht1 41 (by decide) q1562 (Or.inr ⟨rfl, hini, rfl⟩) hR2 (fun _ _ _ => rfl) (v := .ref z1) rfl rfl rfl dX5_init_299 (fun H locs V => ?_)
  refine lv_aload_n (pc := 302) hx hb dX5_init_302 rfl (lv_at hl 0 rfl) ?_
  refine lv_bipush (pc := 303) (v := (ii 64)) hx hb dX5_init_303 (by decide) ?_
  replace hf := nm_s hf; obtain ⟨T3, hT3, hf⟩ := hf
  replace hf := nm_s hf; obtain ⟨N4, hN4, hf⟩ := hf
  replace hf := nm_s hf; obtain ⟨Z5, hZ5, hf⟩ := hf
  replace hf := nm_s hf; obtain ⟨S6, hS6, hf⟩ := hf
  have hm := zX5_init_b307 hf
  refine x_newa (pc := 305) X V (atype := .int) (k := 0) rfl (by decide) q192 (by decide) hT3 hN4 hZ5 (by show _ ≤ kc; omega) (by show _ ≤ ks; omega) dX5_init_305 (fun H V => ?_)
  exact wX5_init_b307 X hr hini hf V (lv_sub hl [0] rfl) ⟨by omega, by omega⟩
set_option maxHeartbeats 400000 in
set_option maxRecDepth 100000 in
theorem zX5_init_b292 {T : xT} {N : xT} {Z : Nat} {S : Nat} {I : xI} {L : xL} {R : xR}  {x0 : Nat} {z0 : Nat} {z1 : Nat} {To : xT} {No : xT} {Zo : Nat} {So : Nat} {Io : xI} {Lo : xL} {Ro : xR}  (hf : fX5_init_b292 T N Z S I L R x0 z0 z1 = some (To, No, Zo, So, Io, Lo, Ro)) : Z ≤ Zo ∧ S ≤ So := by
  unfold fX5_init_b292 at hf
  replace hf := tg_s hf; obtain ⟨ht1, hf⟩ := hf
  replace hf := nm_s hf; obtain ⟨R2, hR2, hf⟩ := hf
  replace hf := nm_s hf; obtain ⟨T3, hT3, hf⟩ := hf
  replace hf := nm_s hf; obtain ⟨N4, hN4, hf⟩ := hf
  replace hf := nm_s hf; obtain ⟨Z5, hZ5, hf⟩ := hf
  replace hf := nm_s hf; obtain ⟨S6, hS6, hf⟩ := hf
  have hm := zX5_init_b299 hf
  exact ⟨by omega, by omega⟩
set_option maxHeartbeats 400000 in
set_option maxRecDepth 100000 in
theorem wX5_init_b292 {kc ks : Nat} {cells slots : Nat} {p : Program} {l : Launch} {e : Env} {s : State} {m : MethodId} {args : Array Value} {below : List Frame} {meth : Method} {c : Code} {D : va_G} {dA : Nat → ClassId} {s0 : Nat} {T : xT} {N : xT} {Z : Nat} {S : Nat} {I : xI} {L : xL} {R : xR} {H : Heap} {locs : List Loc} {ls : Array Slot}  {x0 : Nat} {z0 : Nat} {z1 : Nat} {To : xT} {No : xT} {Zo : Nat} {So : Nat} {Io : xI} {Lo : xL} {Ro : xR} (X : Cx D dA s0 p m c cX5_init 1 s args RX5 meth) (hr : meth.sig.returnType = none) (hini : meth.name = "<init>")   (hf : fX5_init_b292 T N Z S I L R x0 z0 z1 = some (To, No, Zo, So, Io, Lo, Ro)) (V : Iv D dA s0 s T N Z I L R H locs) (hl : lv_has ls 1 [(0, .ref x0)]) (hB : cells + (Zo - Z) ≤ kc ∧ slots + (So - S) ≤ ks) : W p l e { frames := 1, cells := kc, slots := ks, locals := 20 } s m args below meth c H locs cells slots (MQ below (xQ D dA s0 none To No Zo Io Lo Ro) args s kc ks (fun q => s0 ≤ q)) (F0 m 292 ls [.ref z1, .ref z0]) := by
  have hx := X.1.1
  have hb := X.1.2.1
  unfold fX5_init_b292 at hf
  replace hf := tg_s hf; obtain ⟨ht1, hf⟩ := hf
  replace hf := nm_s hf; obtain ⟨R2, hR2, hf⟩ := hf
  refine x_putr (pc := 292) X V okX5 (by decide) ht1 37 (by decide) q1558 (Or.inr ⟨rfl, hini, rfl⟩) hR2 (fun _ _ _ => rfl) (v := .ref z1) rfl rfl rfl dX5_init_292 (fun H locs V => ?_)
  refine lv_aload_n (pc := 295) hx hb dX5_init_295 rfl (lv_at hl 0 rfl) ?_
  refine lv_iconst (pc := 296) (v := (ii 4)) hx hb dX5_init_296 (by decide) ?_
  replace hf := nm_s hf; obtain ⟨T3, hT3, hf⟩ := hf
  replace hf := nm_s hf; obtain ⟨N4, hN4, hf⟩ := hf
  replace hf := nm_s hf; obtain ⟨Z5, hZ5, hf⟩ := hf
  replace hf := nm_s hf; obtain ⟨S6, hS6, hf⟩ := hf
  have hm := zX5_init_b299 hf
  refine x_newa (pc := 297) X V (atype := .int) (k := 0) rfl (by decide) q192 (by decide) hT3 hN4 hZ5 (by show _ ≤ kc; omega) (by show _ ≤ ks; omega) dX5_init_297 (fun H V => ?_)
  exact wX5_init_b299 X hr hini hf V (lv_sub hl [0] rfl) ⟨by omega, by omega⟩
set_option maxHeartbeats 400000 in
set_option maxRecDepth 100000 in
theorem zX5_init_b283 {T : xT} {N : xT} {Z : Nat} {S : Nat} {I : xI} {L : xL} {R : xR}  {x0 : Nat} {z0 : Nat} {z1 : Nat} {To : xT} {No : xT} {Zo : Nat} {So : Nat} {Io : xI} {Lo : xL} {Ro : xR}  (hf : fX5_init_b283 T N Z S I L R x0 z0 z1 = some (To, No, Zo, So, Io, Lo, Ro)) : Z ≤ Zo ∧ S ≤ So := by
  unfold fX5_init_b283 at hf
  replace hf := tg_s hf; obtain ⟨ht1, hf⟩ := hf
  replace hf := nm_s hf; obtain ⟨R2, hR2, hf⟩ := hf
  replace hf := nm_s hf; obtain ⟨T3, hT3, hf⟩ := hf
  replace hf := nm_s hf; obtain ⟨N4, hN4, hf⟩ := hf
  replace hf := nm_s hf; obtain ⟨Z5, hZ5, hf⟩ := hf
  replace hf := nm_s hf; obtain ⟨S6, hS6, hf⟩ := hf
  have hm := zX5_init_b292 hf
  exact ⟨by omega, by omega⟩
set_option maxHeartbeats 400000 in
set_option maxRecDepth 100000 in
theorem wX5_init_b283 {kc ks : Nat} {cells slots : Nat} {p : Program} {l : Launch} {e : Env} {s : State} {m : MethodId} {args : Array Value} {below : List Frame} {meth : Method} {c : Code} {D : va_G} {dA : Nat → ClassId} {s0 : Nat} {T : xT} {N : xT} {Z : Nat} {S : Nat} {I : xI} {L : xL} {R : xR} {H : Heap} {locs : List Loc} {ls : Array Slot}  {x0 : Nat} {z0 : Nat} {z1 : Nat} {To : xT} {No : xT} {Zo : Nat} {So : Nat} {Io : xI} {Lo : xL} {Ro : xR} (X : Cx D dA s0 p m c cX5_init 1 s args RX5 meth) (hr : meth.sig.returnType = none) (hini : meth.name = "<init>")   (hf : fX5_init_b283 T N Z S I L R x0 z0 z1 = some (To, No, Zo, So, Io, Lo, Ro)) (V : Iv D dA s0 s T N Z I L R H locs) (hl : lv_has ls 1 [(0, .ref x0)]) (hB : cells + (Zo - Z) ≤ kc ∧ slots + (So - S) ≤ ks) : W p l e { frames := 1, cells := kc, slots := ks, locals := 20 } s m args below meth c H locs cells slots (MQ below (xQ D dA s0 none To No Zo Io Lo Ro) args s kc ks (fun q => s0 ≤ q)) (F0 m 283 ls [.ref z1, .ref z0]) := by
  have hx := X.1.1
  have hb := X.1.2.1
  unfold fX5_init_b283 at hf
  replace hf := tg_s hf; obtain ⟨ht1, hf⟩ := hf
  replace hf := nm_s hf; obtain ⟨R2, hR2, hf⟩ := hf
  refine x_putr (pc := 283) X V okX5 (by decide) ht1 36 (by decide) q1557 (Or.inr ⟨rfl, hini, rfl⟩) hR2 (fun _ _ _ => rfl) (v := .ref z1) rfl rfl rfl dX5_init_283 (fun H locs V => ?_)
  refine lv_aload_n (pc := 286) hx hb dX5_init_286 rfl (lv_at hl 0 rfl) ?_
  refine lv_sipush (pc := 287) (v := (ii 400)) hx hb dX5_init_287 (by decide) ?_
  replace hf := nm_s hf; obtain ⟨T3, hT3, hf⟩ := hf
  replace hf := nm_s hf; obtain ⟨N4, hN4, hf⟩ := hf
  replace hf := nm_s hf; obtain ⟨Z5, hZ5, hf⟩ := hf
  replace hf := nm_s hf; obtain ⟨S6, hS6, hf⟩ := hf
  have hm := zX5_init_b292 hf
  refine x_newa (pc := 290) X V (atype := .long) (k := 3) rfl (by decide) q359 (by decide) hT3 hN4 hZ5 (by show _ ≤ kc; omega) (by show _ ≤ ks; omega) dX5_init_290 (fun H V => ?_)
  exact wX5_init_b292 X hr hini hf V (lv_sub hl [0] rfl) ⟨by omega, by omega⟩
set_option maxHeartbeats 400000 in
set_option maxRecDepth 100000 in
theorem zX5_init_b275 {T : xT} {N : xT} {Z : Nat} {S : Nat} {I : xI} {L : xL} {R : xR}  {x0 : Nat} {z0 : Nat} {z1 : Nat} {To : xT} {No : xT} {Zo : Nat} {So : Nat} {Io : xI} {Lo : xL} {Ro : xR}  (hf : fX5_init_b275 T N Z S I L R x0 z0 z1 = some (To, No, Zo, So, Io, Lo, Ro)) : Z ≤ Zo ∧ S ≤ So := by
  unfold fX5_init_b275 at hf
  replace hf := tg_s hf; obtain ⟨ht1, hf⟩ := hf
  replace hf := nm_s hf; obtain ⟨R2, hR2, hf⟩ := hf
  replace hf := nm_s hf; obtain ⟨T3, hT3, hf⟩ := hf
  replace hf := nm_s hf; obtain ⟨N4, hN4, hf⟩ := hf
  replace hf := nm_s hf; obtain ⟨Z5, hZ5, hf⟩ := hf
  replace hf := nm_s hf; obtain ⟨S6, hS6, hf⟩ := hf
  have hm := zX5_init_b283 hf
  exact ⟨by omega, by omega⟩
set_option maxHeartbeats 400000 in
set_option maxRecDepth 100000 in
theorem wX5_init_b275 {kc ks : Nat} {cells slots : Nat} {p : Program} {l : Launch} {e : Env} {s : State} {m : MethodId} {args : Array Value} {below : List Frame} {meth : Method} {c : Code} {D : va_G} {dA : Nat → ClassId} {s0 : Nat} {T : xT} {N : xT} {Z : Nat} {S : Nat} {I : xI} {L : xL} {R : xR} {H : Heap} {locs : List Loc} {ls : Array Slot}  {x0 : Nat} {z0 : Nat} {z1 : Nat} {To : xT} {No : xT} {Zo : Nat} {So : Nat} {Io : xI} {Lo : xL} {Ro : xR} (X : Cx D dA s0 p m c cX5_init 1 s args RX5 meth) (hr : meth.sig.returnType = none) (hini : meth.name = "<init>")   (hf : fX5_init_b275 T N Z S I L R x0 z0 z1 = some (To, No, Zo, So, Io, Lo, Ro)) (V : Iv D dA s0 s T N Z I L R H locs) (hl : lv_has ls 1 [(0, .ref x0)]) (hB : cells + (Zo - Z) ≤ kc ∧ slots + (So - S) ≤ ks) : W p l e { frames := 1, cells := kc, slots := ks, locals := 20 } s m args below meth c H locs cells slots (MQ below (xQ D dA s0 none To No Zo Io Lo Ro) args s kc ks (fun q => s0 ≤ q)) (F0 m 275 ls [.ref z1, .ref z0]) := by
  have hx := X.1.1
  have hb := X.1.2.1
  unfold fX5_init_b275 at hf
  replace hf := tg_s hf; obtain ⟨ht1, hf⟩ := hf
  replace hf := nm_s hf; obtain ⟨R2, hR2, hf⟩ := hf
  refine x_putr (pc := 275) X V okX5 (by decide) ht1 35 (by decide) q1556 (Or.inr ⟨rfl, hini, rfl⟩) hR2 (fun _ _ _ => rfl) (v := .ref z1) rfl rfl rfl dX5_init_275 (fun H locs V => ?_)
  refine lv_aload_n (pc := 278) hx hb dX5_init_278 rfl (lv_at hl 0 rfl) ?_
  refine lv_bipush (pc := 279) (v := (ii 13)) hx hb dX5_init_279 (by decide) ?_
  replace hf := nm_s hf; obtain ⟨T3, hT3, hf⟩ := hf
  replace hf := nm_s hf; obtain ⟨N4, hN4, hf⟩ := hf
  replace hf := nm_s hf; obtain ⟨Z5, hZ5, hf⟩ := hf
  replace hf := nm_s hf; obtain ⟨S6, hS6, hf⟩ := hf
  have hm := zX5_init_b283 hf
  refine x_newa (pc := 281) X V (atype := .long) (k := 3) rfl (by decide) q359 (by decide) hT3 hN4 hZ5 (by show _ ≤ kc; omega) (by show _ ≤ ks; omega) dX5_init_281 (fun H V => ?_)
  exact wX5_init_b283 X hr hini hf V (lv_sub hl [0] rfl) ⟨by omega, by omega⟩
set_option maxHeartbeats 400000 in
set_option maxRecDepth 100000 in
theorem zX5_init_b249 {T : xT} {N : xT} {Z : Nat} {S : Nat} {I : xI} {L : xL} {R : xR}  {x0 : Nat} {z0 : Nat} {z1 : Nat} {To : xT} {No : xT} {Zo : Nat} {So : Nat} {Io : xI} {Lo : xL} {Ro : xR}  (hf : fX5_init_b249 T N Z S I L R x0 z0 z1 = some (To, No, Zo, So, Io, Lo, Ro)) : Z ≤ Zo ∧ S ≤ So := by
  unfold fX5_init_b249 at hf
  replace hf := rA_s hf; obtain ⟨j1, hjj1, htj1, hij1, hf⟩ := hf
  replace hf := nm_s hf; obtain ⟨L2, hL2, hf⟩ := hf
  replace hf := rA_s hf; obtain ⟨j3, hjj3, htj3, hij3, hf⟩ := hf
  replace hf := nm_s hf; obtain ⟨L4, hL4, hf⟩ := hf
  replace hf := rA_s hf; obtain ⟨j5, hjj5, htj5, hij5, hf⟩ := hf
  replace hf := nm_s hf; obtain ⟨L6, hL6, hf⟩ := hf
  replace hf := tg_s hf; obtain ⟨ht7, hf⟩ := hf
  replace hf := nm_s hf; obtain ⟨R8, hR8, hf⟩ := hf
  replace hf := nm_s hf; obtain ⟨T9, hT9, hf⟩ := hf
  replace hf := nm_s hf; obtain ⟨N10, hN10, hf⟩ := hf
  replace hf := nm_s hf; obtain ⟨Z11, hZ11, hf⟩ := hf
  replace hf := nm_s hf; obtain ⟨S12, hS12, hf⟩ := hf
  have hm := zX5_init_b275 hf
  exact ⟨by omega, by omega⟩
set_option maxHeartbeats 400000 in
set_option maxRecDepth 100000 in
theorem wX5_init_b249 {kc ks : Nat} {cells slots : Nat} {p : Program} {l : Launch} {e : Env} {s : State} {m : MethodId} {args : Array Value} {below : List Frame} {meth : Method} {c : Code} {D : va_G} {dA : Nat → ClassId} {s0 : Nat} {T : xT} {N : xT} {Z : Nat} {S : Nat} {I : xI} {L : xL} {R : xR} {H : Heap} {locs : List Loc} {ls : Array Slot}  {x0 : Nat} {z0 : Nat} {z1 : Nat} {To : xT} {No : xT} {Zo : Nat} {So : Nat} {Io : xI} {Lo : xL} {Ro : xR} (X : Cx D dA s0 p m c cX5_init 1 s args RX5 meth) (hr : meth.sig.returnType = none) (hini : meth.name = "<init>")   (hf : fX5_init_b249 T N Z S I L R x0 z0 z1 = some (To, No, Zo, So, Io, Lo, Ro)) (V : Iv D dA s0 s T N Z I L R H locs) (hl : lv_has ls 1 [(0, .ref x0)]) (hB : cells + (Zo - Z) ≤ kc ∧ slots + (So - S) ≤ ks) : W p l e { frames := 1, cells := kc, slots := ks, locals := 20 } s m args below meth c H locs cells slots (MQ below (xQ D dA s0 none To No Zo Io Lo Ro) args s kc ks (fun q => s0 ≤ q)) (F0 m 249 ls [.ref z1, .ref z0]) := by
  have hx := X.1.1
  have hb := X.1.2.1
  unfold fX5_init_b249 at hf
  refine lv_dup (pc := 249) hx hb dX5_init_249 rfl ?_
  refine lv_iconst (pc := 250) (v := (ii 0)) hx hb dX5_init_250 (by decide) ?_
  refine lv_ldc2 (pc := 251) (v := (jj 21678547)) hx hb X.1.2.2.2.1 (X.1.2.2.2.2 _ q1514) dX5_init_251 ?_
  replace hf := rA_s hf; obtain ⟨j1, hjj1, htj1, hij1, hf⟩ := hf
  replace hf := nm_s hf; obtain ⟨L2, hL2, hf⟩ := hf
  refine x_last (pc := 254) X V htj1 hij1 hjj1 hL2 dX5_init_254 (fun H locs V => ?_)
  refine lv_dup (pc := 255) hx hb dX5_init_255 rfl ?_
  refine lv_iconst (pc := 256) (v := (ii 1)) hx hb dX5_init_256 (by decide) ?_
  refine lv_ldc2 (pc := 257) (v := (jj 624435)) hx hb X.1.2.2.2.1 (X.1.2.2.2.2 _ q1515) dX5_init_257 ?_
  replace hf := rA_s hf; obtain ⟨j3, hjj3, htj3, hij3, hf⟩ := hf
  replace hf := nm_s hf; obtain ⟨L4, hL4, hf⟩ := hf
  refine x_last (pc := 260) X V htj3 hij3 hjj3 hL4 dX5_init_260 (fun H locs V => ?_)
  refine lv_dup (pc := 261) hx hb dX5_init_261 rfl ?_
  refine lv_iconst (pc := 262) (v := (ii 2)) hx hb dX5_init_262 (by decide) ?_
  refine lv_ldc2 (pc := 263) (v := (jj 67155)) hx hb X.1.2.2.2.1 (X.1.2.2.2.2 _ q1516) dX5_init_263 ?_
  replace hf := rA_s hf; obtain ⟨j5, hjj5, htj5, hij5, hf⟩ := hf
  replace hf := nm_s hf; obtain ⟨L6, hL6, hf⟩ := hf
  refine x_last (pc := 266) X V htj5 hij5 hjj5 hL6 dX5_init_266 (fun H locs V => ?_)
  replace hf := tg_s hf; obtain ⟨ht7, hf⟩ := hf
  replace hf := nm_s hf; obtain ⟨R8, hR8, hf⟩ := hf
  refine x_putr (pc := 267) X V okX5 (by decide) ht7 33 (by decide) q1554 (Or.inr ⟨rfl, hini, rfl⟩) hR8 (fun _ _ _ => rfl) (v := .ref z1) rfl rfl rfl dX5_init_267 (fun H locs V => ?_)
  refine lv_aload_n (pc := 270) hx hb dX5_init_270 rfl (lv_at hl 0 rfl) ?_
  refine lv_bipush (pc := 271) (v := (ii 13)) hx hb dX5_init_271 (by decide) ?_
  replace hf := nm_s hf; obtain ⟨T9, hT9, hf⟩ := hf
  replace hf := nm_s hf; obtain ⟨N10, hN10, hf⟩ := hf
  replace hf := nm_s hf; obtain ⟨Z11, hZ11, hf⟩ := hf
  replace hf := nm_s hf; obtain ⟨S12, hS12, hf⟩ := hf
  have hm := zX5_init_b275 hf
  refine x_newa (pc := 273) X V (atype := .long) (k := 3) rfl (by decide) q359 (by decide) hT9 hN10 hZ11 (by show _ ≤ kc; omega) (by show _ ≤ ks; omega) dX5_init_273 (fun H V => ?_)
  exact wX5_init_b275 X hr hini hf V (lv_sub hl [0] rfl) ⟨by omega, by omega⟩
set_option maxHeartbeats 400000 in
set_option maxRecDepth 100000 in
theorem zX5_init_b199 {T : xT} {N : xT} {Z : Nat} {S : Nat} {I : xI} {L : xL} {R : xR}  {x0 : Nat} {z0 : Nat} {z1 : Nat} {To : xT} {No : xT} {Zo : Nat} {So : Nat} {Io : xI} {Lo : xL} {Ro : xR}  (hf : fX5_init_b199 T N Z S I L R x0 z0 z1 = some (To, No, Zo, So, Io, Lo, Ro)) : Z ≤ Zo ∧ S ≤ So := by
  unfold fX5_init_b199 at hf
  replace hf := rA_s hf; obtain ⟨j1, hjj1, htj1, hij1, hf⟩ := hf
  replace hf := nm_s hf; obtain ⟨L2, hL2, hf⟩ := hf
  replace hf := rA_s hf; obtain ⟨j3, hjj3, htj3, hij3, hf⟩ := hf
  replace hf := nm_s hf; obtain ⟨L4, hL4, hf⟩ := hf
  replace hf := rA_s hf; obtain ⟨j5, hjj5, htj5, hij5, hf⟩ := hf
  replace hf := nm_s hf; obtain ⟨L6, hL6, hf⟩ := hf
  replace hf := rA_s hf; obtain ⟨j7, hjj7, htj7, hij7, hf⟩ := hf
  replace hf := nm_s hf; obtain ⟨L8, hL8, hf⟩ := hf
  replace hf := rA_s hf; obtain ⟨j9, hjj9, htj9, hij9, hf⟩ := hf
  replace hf := nm_s hf; obtain ⟨L10, hL10, hf⟩ := hf
  replace hf := rA_s hf; obtain ⟨j11, hjj11, htj11, hij11, hf⟩ := hf
  replace hf := nm_s hf; obtain ⟨L12, hL12, hf⟩ := hf
  replace hf := rA_s hf; obtain ⟨j13, hjj13, htj13, hij13, hf⟩ := hf
  replace hf := nm_s hf; obtain ⟨L14, hL14, hf⟩ := hf
  replace hf := tg_s hf; obtain ⟨ht15, hf⟩ := hf
  replace hf := nm_s hf; obtain ⟨R16, hR16, hf⟩ := hf
  replace hf := nm_s hf; obtain ⟨T17, hT17, hf⟩ := hf
  replace hf := nm_s hf; obtain ⟨N18, hN18, hf⟩ := hf
  replace hf := nm_s hf; obtain ⟨Z19, hZ19, hf⟩ := hf
  replace hf := nm_s hf; obtain ⟨S20, hS20, hf⟩ := hf
  have hm := zX5_init_b249 hf
  exact ⟨by omega, by omega⟩
set_option maxHeartbeats 400000 in
set_option maxRecDepth 100000 in
theorem wX5_init_b199 {kc ks : Nat} {cells slots : Nat} {p : Program} {l : Launch} {e : Env} {s : State} {m : MethodId} {args : Array Value} {below : List Frame} {meth : Method} {c : Code} {D : va_G} {dA : Nat → ClassId} {s0 : Nat} {T : xT} {N : xT} {Z : Nat} {S : Nat} {I : xI} {L : xL} {R : xR} {H : Heap} {locs : List Loc} {ls : Array Slot}  {x0 : Nat} {z0 : Nat} {z1 : Nat} {To : xT} {No : xT} {Zo : Nat} {So : Nat} {Io : xI} {Lo : xL} {Ro : xR} (X : Cx D dA s0 p m c cX5_init 1 s args RX5 meth) (hr : meth.sig.returnType = none) (hini : meth.name = "<init>")   (hf : fX5_init_b199 T N Z S I L R x0 z0 z1 = some (To, No, Zo, So, Io, Lo, Ro)) (V : Iv D dA s0 s T N Z I L R H locs) (hl : lv_has ls 1 [(0, .ref x0)]) (hB : cells + (Zo - Z) ≤ kc ∧ slots + (So - S) ≤ ks) : W p l e { frames := 1, cells := kc, slots := ks, locals := 20 } s m args below meth c H locs cells slots (MQ below (xQ D dA s0 none To No Zo Io Lo Ro) args s kc ks (fun q => s0 ≤ q)) (F0 m 199 ls [.ref z1, .ref z0]) := by
  have hx := X.1.1
  have hb := X.1.2.1
  unfold fX5_init_b199 at hf
  refine lv_dup (pc := 199) hx hb dX5_init_199 rfl ?_
  refine lv_iconst (pc := 200) (v := (ii 0)) hx hb dX5_init_200 (by decide) ?_
  refine lv_ldc2 (pc := 201) (v := (jj 278194)) hx hb X.1.2.2.2.1 (X.1.2.2.2.2 _ q1506) dX5_init_201 ?_
  replace hf := rA_s hf; obtain ⟨j1, hjj1, htj1, hij1, hf⟩ := hf
  replace hf := nm_s hf; obtain ⟨L2, hL2, hf⟩ := hf
  refine x_last (pc := 204) X V htj1 hij1 hjj1 hL2 dX5_init_204 (fun H locs V => ?_)
  refine lv_dup (pc := 205) hx hb dX5_init_205 rfl ?_
  refine lv_iconst (pc := 206) (v := (ii 1)) hx hb dX5_init_206 (by decide) ?_
  refine lv_ldc2 (pc := 207) (v := (jj 146885)) hx hb X.1.2.2.2.1 (X.1.2.2.2.2 _ q1508) dX5_init_207 ?_
  replace hf := rA_s hf; obtain ⟨j3, hjj3, htj3, hij3, hf⟩ := hf
  replace hf := nm_s hf; obtain ⟨L4, hL4, hf⟩ := hf
  refine x_last (pc := 210) X V htj3 hij3 hjj3 hL4 dX5_init_210 (fun H locs V => ?_)
  refine lv_dup (pc := 211) hx hb dX5_init_211 rfl ?_
  refine lv_iconst (pc := 212) (v := (ii 2)) hx hb dX5_init_212 (by decide) ?_
  refine lv_ldc2 (pc := 213) (v := (jj 404362868)) hx hb X.1.2.2.2.1 (X.1.2.2.2.2 _ q1509) dX5_init_213 ?_
  replace hf := rA_s hf; obtain ⟨j5, hjj5, htj5, hij5, hf⟩ := hf
  replace hf := nm_s hf; obtain ⟨L6, hL6, hf⟩ := hf
  refine x_last (pc := 216) X V htj5 hij5 hjj5 hL6 dX5_init_216 (fun H locs V => ?_)
  refine lv_dup (pc := 217) hx hb dX5_init_217 rfl ?_
  refine lv_iconst (pc := 218) (v := (ii 3)) hx hb dX5_init_218 (by decide) ?_
  refine lv_ldc2 (pc := 219) (v := (jj 14726308)) hx hb X.1.2.2.2.1 (X.1.2.2.2.2 _ q1510) dX5_init_219 ?_
  replace hf := rA_s hf; obtain ⟨j7, hjj7, htj7, hij7, hf⟩ := hf
  replace hf := nm_s hf; obtain ⟨L8, hL8, hf⟩ := hf
  refine x_last (pc := 222) X V htj7 hij7 hjj7 hL8 dX5_init_222 (fun H locs V => ?_)
  refine lv_dup (pc := 223) hx hb dX5_init_223 rfl ?_
  refine lv_iconst (pc := 224) (v := (ii 4)) hx hb dX5_init_224 (by decide) ?_
  refine lv_ldc2 (pc := 225) (v := (jj 369811)) hx hb X.1.2.2.2.1 (X.1.2.2.2.2 _ q1511) dX5_init_225 ?_
  replace hf := rA_s hf; obtain ⟨j9, hjj9, htj9, hij9, hf⟩ := hf
  replace hf := nm_s hf; obtain ⟨L10, hL10, hf⟩ := hf
  refine x_last (pc := 228) X V htj9 hij9 hjj9 hL10 dX5_init_228 (fun H locs V => ?_)
  refine lv_dup (pc := 229) hx hb dX5_init_229 rfl ?_
  refine lv_iconst (pc := 230) (v := (ii 5)) hx hb dX5_init_230 (by decide) ?_
  refine lv_ldc2 (pc := 231) (v := (jj 52)) hx hb X.1.2.2.2.1 (X.1.2.2.2.2 _ q1512) dX5_init_231 ?_
  replace hf := rA_s hf; obtain ⟨j11, hjj11, htj11, hij11, hf⟩ := hf
  replace hf := nm_s hf; obtain ⟨L12, hL12, hf⟩ := hf
  refine x_last (pc := 234) X V htj11 hij11 hjj11 hL12 dX5_init_234 (fun H locs V => ?_)
  refine lv_dup (pc := 235) hx hb dX5_init_235 rfl ?_
  refine lv_bipush (pc := 236) (v := (ii 6)) hx hb dX5_init_236 (by decide) ?_
  refine lv_ldc2 (pc := 238) (v := (jj 17172101)) hx hb X.1.2.2.2.1 (X.1.2.2.2.2 _ q1513) dX5_init_238 ?_
  replace hf := rA_s hf; obtain ⟨j13, hjj13, htj13, hij13, hf⟩ := hf
  replace hf := nm_s hf; obtain ⟨L14, hL14, hf⟩ := hf
  refine x_last (pc := 241) X V htj13 hij13 hjj13 hL14 dX5_init_241 (fun H locs V => ?_)
  replace hf := tg_s hf; obtain ⟨ht15, hf⟩ := hf
  replace hf := nm_s hf; obtain ⟨R16, hR16, hf⟩ := hf
  refine x_putr (pc := 242) X V okX5 (by decide) ht15 32 (by decide) q1553 (Or.inr ⟨rfl, hini, rfl⟩) hR16 (fun _ _ _ => rfl) (v := .ref z1) rfl rfl rfl dX5_init_242 (fun H locs V => ?_)
  refine lv_aload_n (pc := 245) hx hb dX5_init_245 rfl (lv_at hl 0 rfl) ?_
  refine lv_iconst (pc := 246) (v := (ii 3)) hx hb dX5_init_246 (by decide) ?_
  replace hf := nm_s hf; obtain ⟨T17, hT17, hf⟩ := hf
  replace hf := nm_s hf; obtain ⟨N18, hN18, hf⟩ := hf
  replace hf := nm_s hf; obtain ⟨Z19, hZ19, hf⟩ := hf
  replace hf := nm_s hf; obtain ⟨S20, hS20, hf⟩ := hf
  have hm := zX5_init_b249 hf
  refine x_newa (pc := 247) X V (atype := .long) (k := 3) rfl (by decide) q359 (by decide) hT17 hN18 hZ19 (by show _ ≤ kc; omega) (by show _ ≤ ks; omega) dX5_init_247 (fun H V => ?_)
  exact wX5_init_b249 X hr hini hf V (lv_sub hl [0] rfl) ⟨by omega, by omega⟩
set_option maxHeartbeats 400000 in
set_option maxRecDepth 100000 in
theorem zX5_init_b134 {T : xT} {N : xT} {Z : Nat} {S : Nat} {I : xI} {L : xL} {R : xR}  {x0 : Nat} {z0 : Nat} {z1 : Nat} {To : xT} {No : xT} {Zo : Nat} {So : Nat} {Io : xI} {Lo : xL} {Ro : xR}  (hf : fX5_init_b134 T N Z S I L R x0 z0 z1 = some (To, No, Zo, So, Io, Lo, Ro)) : Z ≤ Zo ∧ S ≤ So := by
  unfold fX5_init_b134 at hf
  replace hf := rA_s hf; obtain ⟨j1, hjj1, htj1, hij1, hf⟩ := hf
  replace hf := nm_s hf; obtain ⟨L2, hL2, hf⟩ := hf
  replace hf := rA_s hf; obtain ⟨j3, hjj3, htj3, hij3, hf⟩ := hf
  replace hf := nm_s hf; obtain ⟨L4, hL4, hf⟩ := hf
  replace hf := rA_s hf; obtain ⟨j5, hjj5, htj5, hij5, hf⟩ := hf
  replace hf := nm_s hf; obtain ⟨L6, hL6, hf⟩ := hf
  replace hf := rA_s hf; obtain ⟨j7, hjj7, htj7, hij7, hf⟩ := hf
  replace hf := nm_s hf; obtain ⟨L8, hL8, hf⟩ := hf
  replace hf := rA_s hf; obtain ⟨j9, hjj9, htj9, hij9, hf⟩ := hf
  replace hf := nm_s hf; obtain ⟨L10, hL10, hf⟩ := hf
  replace hf := rA_s hf; obtain ⟨j11, hjj11, htj11, hij11, hf⟩ := hf
  replace hf := nm_s hf; obtain ⟨L12, hL12, hf⟩ := hf
  replace hf := rA_s hf; obtain ⟨j13, hjj13, htj13, hij13, hf⟩ := hf
  replace hf := nm_s hf; obtain ⟨L14, hL14, hf⟩ := hf
  replace hf := rA_s hf; obtain ⟨j15, hjj15, htj15, hij15, hf⟩ := hf
  replace hf := nm_s hf; obtain ⟨L16, hL16, hf⟩ := hf
  replace hf := rA_s hf; obtain ⟨j17, hjj17, htj17, hij17, hf⟩ := hf
  replace hf := nm_s hf; obtain ⟨L18, hL18, hf⟩ := hf
  replace hf := tg_s hf; obtain ⟨ht19, hf⟩ := hf
  replace hf := nm_s hf; obtain ⟨R20, hR20, hf⟩ := hf
  replace hf := nm_s hf; obtain ⟨T21, hT21, hf⟩ := hf
  replace hf := nm_s hf; obtain ⟨N22, hN22, hf⟩ := hf
  replace hf := nm_s hf; obtain ⟨Z23, hZ23, hf⟩ := hf
  replace hf := nm_s hf; obtain ⟨S24, hS24, hf⟩ := hf
  have hm := zX5_init_b199 hf
  exact ⟨by omega, by omega⟩
set_option maxHeartbeats 400000 in
set_option maxRecDepth 100000 in
theorem wX5_init_b134 {kc ks : Nat} {cells slots : Nat} {p : Program} {l : Launch} {e : Env} {s : State} {m : MethodId} {args : Array Value} {below : List Frame} {meth : Method} {c : Code} {D : va_G} {dA : Nat → ClassId} {s0 : Nat} {T : xT} {N : xT} {Z : Nat} {S : Nat} {I : xI} {L : xL} {R : xR} {H : Heap} {locs : List Loc} {ls : Array Slot}  {x0 : Nat} {z0 : Nat} {z1 : Nat} {To : xT} {No : xT} {Zo : Nat} {So : Nat} {Io : xI} {Lo : xL} {Ro : xR} (X : Cx D dA s0 p m c cX5_init 1 s args RX5 meth) (hr : meth.sig.returnType = none) (hini : meth.name = "<init>")   (hf : fX5_init_b134 T N Z S I L R x0 z0 z1 = some (To, No, Zo, So, Io, Lo, Ro)) (V : Iv D dA s0 s T N Z I L R H locs) (hl : lv_has ls 1 [(0, .ref x0)]) (hB : cells + (Zo - Z) ≤ kc ∧ slots + (So - S) ≤ ks) : W p l e { frames := 1, cells := kc, slots := ks, locals := 20 } s m args below meth c H locs cells slots (MQ below (xQ D dA s0 none To No Zo Io Lo Ro) args s kc ks (fun q => s0 ≤ q)) (F0 m 134 ls [.ref z1, .ref z0]) := by
  have hx := X.1.1
  have hb := X.1.2.1
  unfold fX5_init_b134 at hf
  refine lv_dup (pc := 134) hx hb dX5_init_134 rfl ?_
  refine lv_iconst (pc := 135) (v := (ii 0)) hx hb dX5_init_135 (by decide) ?_
  refine lv_ldc2 (pc := 136) (v := (jj 3417476)) hx hb X.1.2.2.2.1 (X.1.2.2.2.2 _ q1499) dX5_init_136 ?_
  replace hf := rA_s hf; obtain ⟨j1, hjj1, htj1, hij1, hf⟩ := hf
  replace hf := nm_s hf; obtain ⟨L2, hL2, hf⟩ := hf
  refine x_last (pc := 139) X V htj1 hij1 hjj1 hL2 dX5_init_139 (fun H locs V => ?_)
  refine lv_dup (pc := 140) hx hb dX5_init_140 rfl ?_
  refine lv_iconst (pc := 141) (v := (ii 1)) hx hb dX5_init_141 (by decide) ?_
  refine lv_ldc2 (pc := 142) (v := (jj 1253)) hx hb X.1.2.2.2.1 (X.1.2.2.2.2 _ q1500) dX5_init_142 ?_
  replace hf := rA_s hf; obtain ⟨j3, hjj3, htj3, hij3, hf⟩ := hf
  replace hf := nm_s hf; obtain ⟨L4, hL4, hf⟩ := hf
  refine x_last (pc := 145) X V htj3 hij3 hjj3 hL4 dX5_init_145 (fun H locs V => ?_)
  refine lv_dup (pc := 146) hx hb dX5_init_146 rfl ?_
  refine lv_iconst (pc := 147) (v := (ii 2)) hx hb dX5_init_147 (by decide) ?_
  refine lv_ldc2 (pc := 148) (v := (jj 394693)) hx hb X.1.2.2.2.1 (X.1.2.2.2.2 _ q1501) dX5_init_148 ?_
  replace hf := rA_s hf; obtain ⟨j5, hjj5, htj5, hij5, hf⟩ := hf
  replace hf := nm_s hf; obtain ⟨L6, hL6, hf⟩ := hf
  refine x_last (pc := 151) X V htj5 hij5 hjj5 hL6 dX5_init_151 (fun H locs V => ?_)
  refine lv_dup (pc := 152) hx hb dX5_init_152 rfl ?_
  refine lv_iconst (pc := 153) (v := (ii 3)) hx hb dX5_init_153 (by decide) ?_
  refine lv_ldc2 (pc := 154) (v := (jj 409031)) hx hb X.1.2.2.2.1 (X.1.2.2.2.2 _ q1502) dX5_init_154 ?_
  replace hf := rA_s hf; obtain ⟨j7, hjj7, htj7, hij7, hf⟩ := hf
  replace hf := nm_s hf; obtain ⟨L8, hL8, hf⟩ := hf
  refine x_last (pc := 157) X V htj7 hij7 hjj7 hL8 dX5_init_157 (fun H locs V => ?_)
  refine lv_dup (pc := 158) hx hb dX5_init_158 rfl ?_
  refine lv_iconst (pc := 159) (v := (ii 4)) hx hb dX5_init_159 (by decide) ?_
  refine lv_ldc2 (pc := 160) (v := (jj 20225300)) hx hb X.1.2.2.2.1 (X.1.2.2.2.2 _ q1503) dX5_init_160 ?_
  replace hf := rA_s hf; obtain ⟨j9, hjj9, htj9, hij9, hf⟩ := hf
  replace hf := nm_s hf; obtain ⟨L10, hL10, hf⟩ := hf
  refine x_last (pc := 163) X V htj9 hij9 hjj9 hL10 dX5_init_163 (fun H locs V => ?_)
  refine lv_dup (pc := 164) hx hb dX5_init_164 rfl ?_
  refine lv_iconst (pc := 165) (v := (ii 5)) hx hb dX5_init_165 (by decide) ?_
  refine lv_ldc2 (pc := 166) (v := (jj 116996274)) hx hb X.1.2.2.2.1 (X.1.2.2.2.2 _ q1504) dX5_init_166 ?_
  replace hf := rA_s hf; obtain ⟨j11, hjj11, htj11, hij11, hf⟩ := hf
  replace hf := nm_s hf; obtain ⟨L12, hL12, hf⟩ := hf
  refine x_last (pc := 169) X V htj11 hij11 hjj11 hL12 dX5_init_169 (fun H locs V => ?_)
  refine lv_dup (pc := 170) hx hb dX5_init_170 rfl ?_
  refine lv_bipush (pc := 171) (v := (ii 6)) hx hb dX5_init_171 (by decide) ?_
  refine lv_ldc2 (pc := 173) (v := (jj 394868)) hx hb X.1.2.2.2.1 (X.1.2.2.2.2 _ q1505) dX5_init_173 ?_
  replace hf := rA_s hf; obtain ⟨j13, hjj13, htj13, hij13, hf⟩ := hf
  replace hf := nm_s hf; obtain ⟨L14, hL14, hf⟩ := hf
  refine x_last (pc := 176) X V htj13 hij13 hjj13 hL14 dX5_init_176 (fun H locs V => ?_)
  refine lv_dup (pc := 177) hx hb dX5_init_177 rfl ?_
  refine lv_bipush (pc := 178) (v := (ii 7)) hx hb dX5_init_178 (by decide) ?_
  refine lv_ldc2 (pc := 180) (v := (jj 278194)) hx hb X.1.2.2.2.1 (X.1.2.2.2.2 _ q1506) dX5_init_180 ?_
  replace hf := rA_s hf; obtain ⟨j15, hjj15, htj15, hij15, hf⟩ := hf
  replace hf := nm_s hf; obtain ⟨L16, hL16, hf⟩ := hf
  refine x_last (pc := 183) X V htj15 hij15 hjj15 hL16 dX5_init_183 (fun H locs V => ?_)
  refine lv_dup (pc := 184) hx hb dX5_init_184 rfl ?_
  refine lv_bipush (pc := 185) (v := (ii 8)) hx hb dX5_init_185 (by decide) ?_
  refine lv_ldc2 (pc := 187) (v := (jj 441828)) hx hb X.1.2.2.2.1 (X.1.2.2.2.2 _ q1507) dX5_init_187 ?_
  replace hf := rA_s hf; obtain ⟨j17, hjj17, htj17, hij17, hf⟩ := hf
  replace hf := nm_s hf; obtain ⟨L18, hL18, hf⟩ := hf
  refine x_last (pc := 190) X V htj17 hij17 hjj17 hL18 dX5_init_190 (fun H locs V => ?_)
  replace hf := tg_s hf; obtain ⟨ht19, hf⟩ := hf
  replace hf := nm_s hf; obtain ⟨R20, hR20, hf⟩ := hf
  refine x_putr (pc := 191) X V okX5 (by decide) ht19 31 (by decide) q1552 (Or.inr ⟨rfl, hini, rfl⟩) hR20 (fun _ _ _ => rfl) (v := .ref z1) rfl rfl rfl dX5_init_191 (fun H locs V => ?_)
  refine lv_aload_n (pc := 194) hx hb dX5_init_194 rfl (lv_at hl 0 rfl) ?_
  refine lv_bipush (pc := 195) (v := (ii 7)) hx hb dX5_init_195 (by decide) ?_
  replace hf := nm_s hf; obtain ⟨T21, hT21, hf⟩ := hf
  replace hf := nm_s hf; obtain ⟨N22, hN22, hf⟩ := hf
  replace hf := nm_s hf; obtain ⟨Z23, hZ23, hf⟩ := hf
  replace hf := nm_s hf; obtain ⟨S24, hS24, hf⟩ := hf
  have hm := zX5_init_b199 hf
  refine x_newa (pc := 197) X V (atype := .long) (k := 3) rfl (by decide) q359 (by decide) hT21 hN22 hZ23 (by show _ ≤ kc; omega) (by show _ ≤ ks; omega) dX5_init_197 (fun H V => ?_)
  exact wX5_init_b199 X hr hini hf V (lv_sub hl [0] rfl) ⟨by omega, by omega⟩
set_option maxHeartbeats 400000 in
set_option maxRecDepth 100000 in
theorem zX5_init_b126 {T : xT} {N : xT} {Z : Nat} {S : Nat} {I : xI} {L : xL} {R : xR}  {x0 : Nat} {z0 : Nat} {z1 : Nat} {To : xT} {No : xT} {Zo : Nat} {So : Nat} {Io : xI} {Lo : xL} {Ro : xR}  (hf : fX5_init_b126 T N Z S I L R x0 z0 z1 = some (To, No, Zo, So, Io, Lo, Ro)) : Z ≤ Zo ∧ S ≤ So := by
  unfold fX5_init_b126 at hf
  replace hf := tg_s hf; obtain ⟨ht1, hf⟩ := hf
  replace hf := nm_s hf; obtain ⟨R2, hR2, hf⟩ := hf
  replace hf := nm_s hf; obtain ⟨T3, hT3, hf⟩ := hf
  replace hf := nm_s hf; obtain ⟨N4, hN4, hf⟩ := hf
  replace hf := nm_s hf; obtain ⟨Z5, hZ5, hf⟩ := hf
  replace hf := nm_s hf; obtain ⟨S6, hS6, hf⟩ := hf
  have hm := zX5_init_b134 hf
  exact ⟨by omega, by omega⟩
set_option maxHeartbeats 400000 in
set_option maxRecDepth 100000 in
theorem wX5_init_b126 {kc ks : Nat} {cells slots : Nat} {p : Program} {l : Launch} {e : Env} {s : State} {m : MethodId} {args : Array Value} {below : List Frame} {meth : Method} {c : Code} {D : va_G} {dA : Nat → ClassId} {s0 : Nat} {T : xT} {N : xT} {Z : Nat} {S : Nat} {I : xI} {L : xL} {R : xR} {H : Heap} {locs : List Loc} {ls : Array Slot}  {x0 : Nat} {z0 : Nat} {z1 : Nat} {To : xT} {No : xT} {Zo : Nat} {So : Nat} {Io : xI} {Lo : xL} {Ro : xR} (X : Cx D dA s0 p m c cX5_init 1 s args RX5 meth) (hr : meth.sig.returnType = none) (hini : meth.name = "<init>")   (hf : fX5_init_b126 T N Z S I L R x0 z0 z1 = some (To, No, Zo, So, Io, Lo, Ro)) (V : Iv D dA s0 s T N Z I L R H locs) (hl : lv_has ls 1 [(0, .ref x0)]) (hB : cells + (Zo - Z) ≤ kc ∧ slots + (So - S) ≤ ks) : W p l e { frames := 1, cells := kc, slots := ks, locals := 20 } s m args below meth c H locs cells slots (MQ below (xQ D dA s0 none To No Zo Io Lo Ro) args s kc ks (fun q => s0 ≤ q)) (F0 m 126 ls [.ref z1, .ref z0]) := by
  have hx := X.1.1
  have hb := X.1.2.1
  unfold fX5_init_b126 at hf
  replace hf := tg_s hf; obtain ⟨ht1, hf⟩ := hf
  replace hf := nm_s hf; obtain ⟨R2, hR2, hf⟩ := hf
  refine x_putr (pc := 126) X V okX5 (by decide) ht1 28 (by decide) q1549 (Or.inr ⟨rfl, hini, rfl⟩) hR2 (fun _ _ _ => rfl) (v := .ref z1) rfl rfl rfl dX5_init_126 (fun H locs V => ?_)
  refine lv_aload_n (pc := 129) hx hb dX5_init_129 rfl (lv_at hl 0 rfl) ?_
  refine lv_bipush (pc := 130) (v := (ii 9)) hx hb dX5_init_130 (by decide) ?_
  replace hf := nm_s hf; obtain ⟨T3, hT3, hf⟩ := hf
  replace hf := nm_s hf; obtain ⟨N4, hN4, hf⟩ := hf
  replace hf := nm_s hf; obtain ⟨Z5, hZ5, hf⟩ := hf
  replace hf := nm_s hf; obtain ⟨S6, hS6, hf⟩ := hf
  have hm := zX5_init_b134 hf
  refine x_newa (pc := 132) X V (atype := .long) (k := 3) rfl (by decide) q359 (by decide) hT3 hN4 hZ5 (by show _ ≤ kc; omega) (by show _ ≤ ks; omega) dX5_init_132 (fun H V => ?_)
  exact wX5_init_b134 X hr hini hf V (lv_sub hl [0] rfl) ⟨by omega, by omega⟩
set_option maxHeartbeats 400000 in
set_option maxRecDepth 100000 in
theorem zX5_init_b117 {T : xT} {N : xT} {Z : Nat} {S : Nat} {I : xI} {L : xL} {R : xR}  {x0 : Nat} {z0 : Nat} {z1 : Nat} {To : xT} {No : xT} {Zo : Nat} {So : Nat} {Io : xI} {Lo : xL} {Ro : xR}  (hf : fX5_init_b117 T N Z S I L R x0 z0 z1 = some (To, No, Zo, So, Io, Lo, Ro)) : Z ≤ Zo ∧ S ≤ So := by
  unfold fX5_init_b117 at hf
  replace hf := tg_s hf; obtain ⟨ht1, hf⟩ := hf
  replace hf := nm_s hf; obtain ⟨R2, hR2, hf⟩ := hf
  replace hf := nm_s hf; obtain ⟨T3, hT3, hf⟩ := hf
  replace hf := nm_s hf; obtain ⟨N4, hN4, hf⟩ := hf
  replace hf := nm_s hf; obtain ⟨Z5, hZ5, hf⟩ := hf
  replace hf := nm_s hf; obtain ⟨S6, hS6, hf⟩ := hf
  have hm := zX5_init_b126 hf
  exact ⟨by omega, by omega⟩
set_option maxHeartbeats 400000 in
set_option maxRecDepth 100000 in
theorem wX5_init_b117 {kc ks : Nat} {cells slots : Nat} {p : Program} {l : Launch} {e : Env} {s : State} {m : MethodId} {args : Array Value} {below : List Frame} {meth : Method} {c : Code} {D : va_G} {dA : Nat → ClassId} {s0 : Nat} {T : xT} {N : xT} {Z : Nat} {S : Nat} {I : xI} {L : xL} {R : xR} {H : Heap} {locs : List Loc} {ls : Array Slot}  {x0 : Nat} {z0 : Nat} {z1 : Nat} {To : xT} {No : xT} {Zo : Nat} {So : Nat} {Io : xI} {Lo : xL} {Ro : xR} (X : Cx D dA s0 p m c cX5_init 1 s args RX5 meth) (hr : meth.sig.returnType = none) (hini : meth.name = "<init>")   (hf : fX5_init_b117 T N Z S I L R x0 z0 z1 = some (To, No, Zo, So, Io, Lo, Ro)) (V : Iv D dA s0 s T N Z I L R H locs) (hl : lv_has ls 1 [(0, .ref x0)]) (hB : cells + (Zo - Z) ≤ kc ∧ slots + (So - S) ≤ ks) : W p l e { frames := 1, cells := kc, slots := ks, locals := 20 } s m args below meth c H locs cells slots (MQ below (xQ D dA s0 none To No Zo Io Lo Ro) args s kc ks (fun q => s0 ≤ q)) (F0 m 117 ls [.ref z1, .ref z0]) := by
  have hx := X.1.1
  have hb := X.1.2.1
  unfold fX5_init_b117 at hf
  replace hf := tg_s hf; obtain ⟨ht1, hf⟩ := hf
  replace hf := nm_s hf; obtain ⟨R2, hR2, hf⟩ := hf
  refine x_putr (pc := 117) X V okX5 (by decide) ht1 27 (by decide) q1548 (Or.inr ⟨rfl, hini, rfl⟩) hR2 (fun _ _ _ => rfl) (v := .ref z1) rfl rfl rfl dX5_init_117 (fun H locs V => ?_)
  refine lv_aload_n (pc := 120) hx hb dX5_init_120 rfl (lv_at hl 0 rfl) ?_
  refine lv_sipush (pc := 121) (v := (ii 400)) hx hb dX5_init_121 (by decide) ?_
  replace hf := nm_s hf; obtain ⟨T3, hT3, hf⟩ := hf
  replace hf := nm_s hf; obtain ⟨N4, hN4, hf⟩ := hf
  replace hf := nm_s hf; obtain ⟨Z5, hZ5, hf⟩ := hf
  replace hf := nm_s hf; obtain ⟨S6, hS6, hf⟩ := hf
  have hm := zX5_init_b126 hf
  refine x_newa (pc := 124) X V (atype := .int) (k := 0) rfl (by decide) q192 (by decide) hT3 hN4 hZ5 (by show _ ≤ kc; omega) (by show _ ≤ ks; omega) dX5_init_124 (fun H V => ?_)
  exact wX5_init_b126 X hr hini hf V (lv_sub hl [0] rfl) ⟨by omega, by omega⟩
set_option maxHeartbeats 400000 in
set_option maxRecDepth 100000 in
theorem zX5_init_b108 {T : xT} {N : xT} {Z : Nat} {S : Nat} {I : xI} {L : xL} {R : xR}  {x0 : Nat} {z0 : Nat} {z1 : Nat} {To : xT} {No : xT} {Zo : Nat} {So : Nat} {Io : xI} {Lo : xL} {Ro : xR}  (hf : fX5_init_b108 T N Z S I L R x0 z0 z1 = some (To, No, Zo, So, Io, Lo, Ro)) : Z ≤ Zo ∧ S ≤ So := by
  unfold fX5_init_b108 at hf
  replace hf := tg_s hf; obtain ⟨ht1, hf⟩ := hf
  replace hf := nm_s hf; obtain ⟨R2, hR2, hf⟩ := hf
  replace hf := nm_s hf; obtain ⟨T3, hT3, hf⟩ := hf
  replace hf := nm_s hf; obtain ⟨N4, hN4, hf⟩ := hf
  replace hf := nm_s hf; obtain ⟨Z5, hZ5, hf⟩ := hf
  replace hf := nm_s hf; obtain ⟨S6, hS6, hf⟩ := hf
  have hm := zX5_init_b117 hf
  exact ⟨by omega, by omega⟩
set_option maxHeartbeats 400000 in
set_option maxRecDepth 100000 in
theorem wX5_init_b108 {kc ks : Nat} {cells slots : Nat} {p : Program} {l : Launch} {e : Env} {s : State} {m : MethodId} {args : Array Value} {below : List Frame} {meth : Method} {c : Code} {D : va_G} {dA : Nat → ClassId} {s0 : Nat} {T : xT} {N : xT} {Z : Nat} {S : Nat} {I : xI} {L : xL} {R : xR} {H : Heap} {locs : List Loc} {ls : Array Slot}  {x0 : Nat} {z0 : Nat} {z1 : Nat} {To : xT} {No : xT} {Zo : Nat} {So : Nat} {Io : xI} {Lo : xL} {Ro : xR} (X : Cx D dA s0 p m c cX5_init 1 s args RX5 meth) (hr : meth.sig.returnType = none) (hini : meth.name = "<init>")   (hf : fX5_init_b108 T N Z S I L R x0 z0 z1 = some (To, No, Zo, So, Io, Lo, Ro)) (V : Iv D dA s0 s T N Z I L R H locs) (hl : lv_has ls 1 [(0, .ref x0)]) (hB : cells + (Zo - Z) ≤ kc ∧ slots + (So - S) ≤ ks) : W p l e { frames := 1, cells := kc, slots := ks, locals := 20 } s m args below meth c H locs cells slots (MQ below (xQ D dA s0 none To No Zo Io Lo Ro) args s kc ks (fun q => s0 ≤ q)) (F0 m 108 ls [.ref z1, .ref z0]) := by
  have hx := X.1.1
  have hb := X.1.2.1
  unfold fX5_init_b108 at hf
  replace hf := tg_s hf; obtain ⟨ht1, hf⟩ := hf
  replace hf := nm_s hf; obtain ⟨R2, hR2, hf⟩ := hf
  refine x_putr (pc := 108) X V okX5 (by decide) ht1 25 (by decide) q1546 (Or.inr ⟨rfl, hini, rfl⟩) hR2 (fun _ _ _ => rfl) (v := .ref z1) rfl rfl rfl dX5_init_108 (fun H locs V => ?_)
  refine lv_aload_n (pc := 111) hx hb dX5_init_111 rfl (lv_at hl 0 rfl) ?_
  refine lv_sipush (pc := 112) (v := (ii 400)) hx hb dX5_init_112 (by decide) ?_
  replace hf := nm_s hf; obtain ⟨T3, hT3, hf⟩ := hf
  replace hf := nm_s hf; obtain ⟨N4, hN4, hf⟩ := hf
  replace hf := nm_s hf; obtain ⟨Z5, hZ5, hf⟩ := hf
  replace hf := nm_s hf; obtain ⟨S6, hS6, hf⟩ := hf
  have hm := zX5_init_b117 hf
  refine x_newa (pc := 115) X V (atype := .int) (k := 0) rfl (by decide) q192 (by decide) hT3 hN4 hZ5 (by show _ ≤ kc; omega) (by show _ ≤ ks; omega) dX5_init_115 (fun H V => ?_)
  exact wX5_init_b117 X hr hini hf V (lv_sub hl [0] rfl) ⟨by omega, by omega⟩
set_option maxHeartbeats 400000 in
set_option maxRecDepth 100000 in
theorem zX5_init_b99 {T : xT} {N : xT} {Z : Nat} {S : Nat} {I : xI} {L : xL} {R : xR}  {x0 : Nat} {z0 : Nat} {z1 : Nat} {To : xT} {No : xT} {Zo : Nat} {So : Nat} {Io : xI} {Lo : xL} {Ro : xR}  (hf : fX5_init_b99 T N Z S I L R x0 z0 z1 = some (To, No, Zo, So, Io, Lo, Ro)) : Z ≤ Zo ∧ S ≤ So := by
  unfold fX5_init_b99 at hf
  replace hf := tg_s hf; obtain ⟨ht1, hf⟩ := hf
  replace hf := nm_s hf; obtain ⟨R2, hR2, hf⟩ := hf
  replace hf := nm_s hf; obtain ⟨T3, hT3, hf⟩ := hf
  replace hf := nm_s hf; obtain ⟨N4, hN4, hf⟩ := hf
  replace hf := nm_s hf; obtain ⟨Z5, hZ5, hf⟩ := hf
  replace hf := nm_s hf; obtain ⟨S6, hS6, hf⟩ := hf
  have hm := zX5_init_b108 hf
  exact ⟨by omega, by omega⟩
set_option maxHeartbeats 400000 in
set_option maxRecDepth 100000 in
theorem wX5_init_b99 {kc ks : Nat} {cells slots : Nat} {p : Program} {l : Launch} {e : Env} {s : State} {m : MethodId} {args : Array Value} {below : List Frame} {meth : Method} {c : Code} {D : va_G} {dA : Nat → ClassId} {s0 : Nat} {T : xT} {N : xT} {Z : Nat} {S : Nat} {I : xI} {L : xL} {R : xR} {H : Heap} {locs : List Loc} {ls : Array Slot}  {x0 : Nat} {z0 : Nat} {z1 : Nat} {To : xT} {No : xT} {Zo : Nat} {So : Nat} {Io : xI} {Lo : xL} {Ro : xR} (X : Cx D dA s0 p m c cX5_init 1 s args RX5 meth) (hr : meth.sig.returnType = none) (hini : meth.name = "<init>")   (hf : fX5_init_b99 T N Z S I L R x0 z0 z1 = some (To, No, Zo, So, Io, Lo, Ro)) (V : Iv D dA s0 s T N Z I L R H locs) (hl : lv_has ls 1 [(0, .ref x0)]) (hB : cells + (Zo - Z) ≤ kc ∧ slots + (So - S) ≤ ks) : W p l e { frames := 1, cells := kc, slots := ks, locals := 20 } s m args below meth c H locs cells slots (MQ below (xQ D dA s0 none To No Zo Io Lo Ro) args s kc ks (fun q => s0 ≤ q)) (F0 m 99 ls [.ref z1, .ref z0]) := by
  have hx := X.1.1
  have hb := X.1.2.1
  unfold fX5_init_b99 at hf
  replace hf := tg_s hf; obtain ⟨ht1, hf⟩ := hf
  replace hf := nm_s hf; obtain ⟨R2, hR2, hf⟩ := hf
  refine x_putr (pc := 99) X V okX5 (by decide) ht1 24 (by decide) q1545 (Or.inr ⟨rfl, hini, rfl⟩) hR2 (fun _ _ _ => rfl) (v := .ref z1) rfl rfl rfl dX5_init_99 (fun H locs V => ?_)
  refine lv_aload_n (pc := 102) hx hb dX5_init_102 rfl (lv_at hl 0 rfl) ?_
  refine lv_sipush (pc := 103) (v := (ii 400)) hx hb dX5_init_103 (by decide) ?_
  replace hf := nm_s hf; obtain ⟨T3, hT3, hf⟩ := hf
  replace hf := nm_s hf; obtain ⟨N4, hN4, hf⟩ := hf
  replace hf := nm_s hf; obtain ⟨Z5, hZ5, hf⟩ := hf
  replace hf := nm_s hf; obtain ⟨S6, hS6, hf⟩ := hf
  have hm := zX5_init_b108 hf
  refine x_newa (pc := 106) X V (atype := .int) (k := 0) rfl (by decide) q192 (by decide) hT3 hN4 hZ5 (by show _ ≤ kc; omega) (by show _ ≤ ks; omega) dX5_init_106 (fun H V => ?_)
  exact wX5_init_b108 X hr hini hf V (lv_sub hl [0] rfl) ⟨by omega, by omega⟩
set_option maxHeartbeats 400000 in
set_option maxRecDepth 100000 in
theorem zX5_init_b90 {T : xT} {N : xT} {Z : Nat} {S : Nat} {I : xI} {L : xL} {R : xR}  {x0 : Nat} {z0 : Nat} {z1 : Nat} {To : xT} {No : xT} {Zo : Nat} {So : Nat} {Io : xI} {Lo : xL} {Ro : xR}  (hf : fX5_init_b90 T N Z S I L R x0 z0 z1 = some (To, No, Zo, So, Io, Lo, Ro)) : Z ≤ Zo ∧ S ≤ So := by
  unfold fX5_init_b90 at hf
  replace hf := tg_s hf; obtain ⟨ht1, hf⟩ := hf
  replace hf := nm_s hf; obtain ⟨R2, hR2, hf⟩ := hf
  replace hf := nm_s hf; obtain ⟨T3, hT3, hf⟩ := hf
  replace hf := nm_s hf; obtain ⟨N4, hN4, hf⟩ := hf
  replace hf := nm_s hf; obtain ⟨Z5, hZ5, hf⟩ := hf
  replace hf := nm_s hf; obtain ⟨S6, hS6, hf⟩ := hf
  have hm := zX5_init_b99 hf
  exact ⟨by omega, by omega⟩
set_option maxHeartbeats 400000 in
set_option maxRecDepth 100000 in
theorem wX5_init_b90 {kc ks : Nat} {cells slots : Nat} {p : Program} {l : Launch} {e : Env} {s : State} {m : MethodId} {args : Array Value} {below : List Frame} {meth : Method} {c : Code} {D : va_G} {dA : Nat → ClassId} {s0 : Nat} {T : xT} {N : xT} {Z : Nat} {S : Nat} {I : xI} {L : xL} {R : xR} {H : Heap} {locs : List Loc} {ls : Array Slot}  {x0 : Nat} {z0 : Nat} {z1 : Nat} {To : xT} {No : xT} {Zo : Nat} {So : Nat} {Io : xI} {Lo : xL} {Ro : xR} (X : Cx D dA s0 p m c cX5_init 1 s args RX5 meth) (hr : meth.sig.returnType = none) (hini : meth.name = "<init>")   (hf : fX5_init_b90 T N Z S I L R x0 z0 z1 = some (To, No, Zo, So, Io, Lo, Ro)) (V : Iv D dA s0 s T N Z I L R H locs) (hl : lv_has ls 1 [(0, .ref x0)]) (hB : cells + (Zo - Z) ≤ kc ∧ slots + (So - S) ≤ ks) : W p l e { frames := 1, cells := kc, slots := ks, locals := 20 } s m args below meth c H locs cells slots (MQ below (xQ D dA s0 none To No Zo Io Lo Ro) args s kc ks (fun q => s0 ≤ q)) (F0 m 90 ls [.ref z1, .ref z0]) := by
  have hx := X.1.1
  have hb := X.1.2.1
  unfold fX5_init_b90 at hf
  replace hf := tg_s hf; obtain ⟨ht1, hf⟩ := hf
  replace hf := nm_s hf; obtain ⟨R2, hR2, hf⟩ := hf
  refine x_putr (pc := 90) X V okX5 (by decide) ht1 22 (by decide) q1543 (Or.inr ⟨rfl, hini, rfl⟩) hR2 (fun _ _ _ => rfl) (v := .ref z1) rfl rfl rfl dX5_init_90 (fun H locs V => ?_)
  refine lv_aload_n (pc := 93) hx hb dX5_init_93 rfl (lv_at hl 0 rfl) ?_
  refine lv_sipush (pc := 94) (v := (ii 400)) hx hb dX5_init_94 (by decide) ?_
  replace hf := nm_s hf; obtain ⟨T3, hT3, hf⟩ := hf
  replace hf := nm_s hf; obtain ⟨N4, hN4, hf⟩ := hf
  replace hf := nm_s hf; obtain ⟨Z5, hZ5, hf⟩ := hf
  replace hf := nm_s hf; obtain ⟨S6, hS6, hf⟩ := hf
  have hm := zX5_init_b99 hf
  refine x_newa (pc := 97) X V (atype := .int) (k := 0) rfl (by decide) q192 (by decide) hT3 hN4 hZ5 (by show _ ≤ kc; omega) (by show _ ≤ ks; omega) dX5_init_97 (fun H V => ?_)
  exact wX5_init_b99 X hr hini hf V (lv_sub hl [0] rfl) ⟨by omega, by omega⟩
set_option maxHeartbeats 400000 in
set_option maxRecDepth 100000 in
theorem zX5_init_b77 {T : xT} {N : xT} {Z : Nat} {S : Nat} {I : xI} {L : xL} {R : xR}  {x0 : Nat} {z0 : Nat} {z1 : Nat} {To : xT} {No : xT} {Zo : Nat} {So : Nat} {Io : xI} {Lo : xL} {Ro : xR}  (hf : fX5_init_b77 T N Z S I L R x0 z0 z1 = some (To, No, Zo, So, Io, Lo, Ro)) : Z ≤ Zo ∧ S ≤ So := by
  unfold fX5_init_b77 at hf
  replace hf := tg_s hf; obtain ⟨ht1, hf⟩ := hf
  replace hf := nm_s hf; obtain ⟨R2, hR2, hf⟩ := hf
  replace hf := tg_s hf; obtain ⟨ht3, hf⟩ := hf
  replace hf := nm_s hf; obtain ⟨I4, hI4, hf⟩ := hf
  replace hf := nm_s hf; obtain ⟨T5, hT5, hf⟩ := hf
  replace hf := nm_s hf; obtain ⟨N6, hN6, hf⟩ := hf
  replace hf := nm_s hf; obtain ⟨Z7, hZ7, hf⟩ := hf
  replace hf := nm_s hf; obtain ⟨S8, hS8, hf⟩ := hf
  have hm := zX5_init_b90 hf
  exact ⟨by omega, by omega⟩
set_option maxHeartbeats 400000 in
set_option maxRecDepth 100000 in
theorem wX5_init_b77 {kc ks : Nat} {cells slots : Nat} {p : Program} {l : Launch} {e : Env} {s : State} {m : MethodId} {args : Array Value} {below : List Frame} {meth : Method} {c : Code} {D : va_G} {dA : Nat → ClassId} {s0 : Nat} {T : xT} {N : xT} {Z : Nat} {S : Nat} {I : xI} {L : xL} {R : xR} {H : Heap} {locs : List Loc} {ls : Array Slot}  {x0 : Nat} {z0 : Nat} {z1 : Nat} {To : xT} {No : xT} {Zo : Nat} {So : Nat} {Io : xI} {Lo : xL} {Ro : xR} (X : Cx D dA s0 p m c cX5_init 1 s args RX5 meth) (hr : meth.sig.returnType = none) (hini : meth.name = "<init>")   (hf : fX5_init_b77 T N Z S I L R x0 z0 z1 = some (To, No, Zo, So, Io, Lo, Ro)) (V : Iv D dA s0 s T N Z I L R H locs) (hl : lv_has ls 1 [(0, .ref x0)]) (hB : cells + (Zo - Z) ≤ kc ∧ slots + (So - S) ≤ ks) : W p l e { frames := 1, cells := kc, slots := ks, locals := 20 } s m args below meth c H locs cells slots (MQ below (xQ D dA s0 none To No Zo Io Lo Ro) args s kc ks (fun q => s0 ≤ q)) (F0 m 77 ls [.ref z1, .ref z0]) := by
  have hx := X.1.1
  have hb := X.1.2.1
  unfold fX5_init_b77 at hf
  replace hf := tg_s hf; obtain ⟨ht1, hf⟩ := hf
  replace hf := nm_s hf; obtain ⟨R2, hR2, hf⟩ := hf
  refine x_putr (pc := 77) X V okX5 (by decide) ht1 12 (by decide) q1533 (Or.inr ⟨rfl, hini, rfl⟩) hR2 (fun _ _ _ => rfl) (v := .ref z1) rfl rfl rfl dX5_init_77 (fun H locs V => ?_)
  refine lv_aload_n (pc := 80) hx hb dX5_init_80 rfl (lv_at hl 0 rfl) ?_
  refine lv_iconst (pc := 81) (v := (-1 : Int32)) hx hb dX5_init_81 (by decide) ?_
  replace hf := tg_s hf; obtain ⟨ht3, hf⟩ := hf
  replace hf := nm_s hf; obtain ⟨I4, hI4, hf⟩ := hf
  refine x_puti (pc := 82) X V okX5 (by decide) ht3 18 (by decide) q1539 (Or.inl rfl) hI4 (fun _ _ _ => rfl) rfl rfl dX5_init_82 (fun H locs V => ?_)
  refine lv_aload_n (pc := 85) hx hb dX5_init_85 rfl (lv_at hl 0 rfl) ?_
  refine lv_bipush (pc := 86) (v := (ii 96)) hx hb dX5_init_86 (by decide) ?_
  replace hf := nm_s hf; obtain ⟨T5, hT5, hf⟩ := hf
  replace hf := nm_s hf; obtain ⟨N6, hN6, hf⟩ := hf
  replace hf := nm_s hf; obtain ⟨Z7, hZ7, hf⟩ := hf
  replace hf := nm_s hf; obtain ⟨S8, hS8, hf⟩ := hf
  have hm := zX5_init_b90 hf
  refine x_newa (pc := 88) X V (atype := .int) (k := 0) rfl (by decide) q192 (by decide) hT5 hN6 hZ7 (by show _ ≤ kc; omega) (by show _ ≤ ks; omega) dX5_init_88 (fun H V => ?_)
  exact wX5_init_b90 X hr hini hf V (lv_sub hl [0] rfl) ⟨by omega, by omega⟩
set_option maxHeartbeats 400000 in
set_option maxRecDepth 100000 in
theorem zX5_init_b68 {T : xT} {N : xT} {Z : Nat} {S : Nat} {I : xI} {L : xL} {R : xR}  {x0 : Nat} {z0 : Nat} {z1 : Nat} {To : xT} {No : xT} {Zo : Nat} {So : Nat} {Io : xI} {Lo : xL} {Ro : xR}  (hf : fX5_init_b68 T N Z S I L R x0 z0 z1 = some (To, No, Zo, So, Io, Lo, Ro)) : Z ≤ Zo ∧ S ≤ So := by
  unfold fX5_init_b68 at hf
  replace hf := tg_s hf; obtain ⟨ht1, hf⟩ := hf
  replace hf := nm_s hf; obtain ⟨R2, hR2, hf⟩ := hf
  replace hf := nm_s hf; obtain ⟨T3, hT3, hf⟩ := hf
  replace hf := nm_s hf; obtain ⟨N4, hN4, hf⟩ := hf
  replace hf := nm_s hf; obtain ⟨Z5, hZ5, hf⟩ := hf
  replace hf := nm_s hf; obtain ⟨S6, hS6, hf⟩ := hf
  have hm := zX5_init_b77 hf
  exact ⟨by omega, by omega⟩
set_option maxHeartbeats 400000 in
set_option maxRecDepth 100000 in
theorem wX5_init_b68 {kc ks : Nat} {cells slots : Nat} {p : Program} {l : Launch} {e : Env} {s : State} {m : MethodId} {args : Array Value} {below : List Frame} {meth : Method} {c : Code} {D : va_G} {dA : Nat → ClassId} {s0 : Nat} {T : xT} {N : xT} {Z : Nat} {S : Nat} {I : xI} {L : xL} {R : xR} {H : Heap} {locs : List Loc} {ls : Array Slot}  {x0 : Nat} {z0 : Nat} {z1 : Nat} {To : xT} {No : xT} {Zo : Nat} {So : Nat} {Io : xI} {Lo : xL} {Ro : xR} (X : Cx D dA s0 p m c cX5_init 1 s args RX5 meth) (hr : meth.sig.returnType = none) (hini : meth.name = "<init>")   (hf : fX5_init_b68 T N Z S I L R x0 z0 z1 = some (To, No, Zo, So, Io, Lo, Ro)) (V : Iv D dA s0 s T N Z I L R H locs) (hl : lv_has ls 1 [(0, .ref x0)]) (hB : cells + (Zo - Z) ≤ kc ∧ slots + (So - S) ≤ ks) : W p l e { frames := 1, cells := kc, slots := ks, locals := 20 } s m args below meth c H locs cells slots (MQ below (xQ D dA s0 none To No Zo Io Lo Ro) args s kc ks (fun q => s0 ≤ q)) (F0 m 68 ls [.ref z1, .ref z0]) := by
  have hx := X.1.1
  have hb := X.1.2.1
  unfold fX5_init_b68 at hf
  replace hf := tg_s hf; obtain ⟨ht1, hf⟩ := hf
  replace hf := nm_s hf; obtain ⟨R2, hR2, hf⟩ := hf
  refine x_putr (pc := 68) X V okX5 (by decide) ht1 10 (by decide) q1531 (Or.inr ⟨rfl, hini, rfl⟩) hR2 (fun _ _ _ => rfl) (v := .ref z1) rfl rfl rfl dX5_init_68 (fun H locs V => ?_)
  refine lv_aload_n (pc := 71) hx hb dX5_init_71 rfl (lv_at hl 0 rfl) ?_
  refine lv_sipush (pc := 72) (v := (ii 400)) hx hb dX5_init_72 (by decide) ?_
  replace hf := nm_s hf; obtain ⟨T3, hT3, hf⟩ := hf
  replace hf := nm_s hf; obtain ⟨N4, hN4, hf⟩ := hf
  replace hf := nm_s hf; obtain ⟨Z5, hZ5, hf⟩ := hf
  replace hf := nm_s hf; obtain ⟨S6, hS6, hf⟩ := hf
  have hm := zX5_init_b77 hf
  refine x_newa (pc := 75) X V (atype := .int) (k := 0) rfl (by decide) q192 (by decide) hT3 hN4 hZ5 (by show _ ≤ kc; omega) (by show _ ≤ ks; omega) dX5_init_75 (fun H V => ?_)
  exact wX5_init_b77 X hr hini hf V (lv_sub hl [0] rfl) ⟨by omega, by omega⟩
set_option maxHeartbeats 400000 in
set_option maxRecDepth 100000 in
theorem zX5_init_b60 {T : xT} {N : xT} {Z : Nat} {S : Nat} {I : xI} {L : xL} {R : xR}  {x0 : Nat} {z0 : Nat} {z1 : Nat} {To : xT} {No : xT} {Zo : Nat} {So : Nat} {Io : xI} {Lo : xL} {Ro : xR}  (hf : fX5_init_b60 T N Z S I L R x0 z0 z1 = some (To, No, Zo, So, Io, Lo, Ro)) : Z ≤ Zo ∧ S ≤ So := by
  unfold fX5_init_b60 at hf
  replace hf := tg_s hf; obtain ⟨ht1, hf⟩ := hf
  replace hf := nm_s hf; obtain ⟨R2, hR2, hf⟩ := hf
  replace hf := nm_s hf; obtain ⟨T3, hT3, hf⟩ := hf
  replace hf := nm_s hf; obtain ⟨N4, hN4, hf⟩ := hf
  replace hf := nm_s hf; obtain ⟨Z5, hZ5, hf⟩ := hf
  replace hf := nm_s hf; obtain ⟨S6, hS6, hf⟩ := hf
  have hm := zX5_init_b68 hf
  exact ⟨by omega, by omega⟩
set_option maxHeartbeats 400000 in
set_option maxRecDepth 100000 in
theorem wX5_init_b60 {kc ks : Nat} {cells slots : Nat} {p : Program} {l : Launch} {e : Env} {s : State} {m : MethodId} {args : Array Value} {below : List Frame} {meth : Method} {c : Code} {D : va_G} {dA : Nat → ClassId} {s0 : Nat} {T : xT} {N : xT} {Z : Nat} {S : Nat} {I : xI} {L : xL} {R : xR} {H : Heap} {locs : List Loc} {ls : Array Slot}  {x0 : Nat} {z0 : Nat} {z1 : Nat} {To : xT} {No : xT} {Zo : Nat} {So : Nat} {Io : xI} {Lo : xL} {Ro : xR} (X : Cx D dA s0 p m c cX5_init 1 s args RX5 meth) (hr : meth.sig.returnType = none) (hini : meth.name = "<init>")   (hf : fX5_init_b60 T N Z S I L R x0 z0 z1 = some (To, No, Zo, So, Io, Lo, Ro)) (V : Iv D dA s0 s T N Z I L R H locs) (hl : lv_has ls 1 [(0, .ref x0)]) (hB : cells + (Zo - Z) ≤ kc ∧ slots + (So - S) ≤ ks) : W p l e { frames := 1, cells := kc, slots := ks, locals := 20 } s m args below meth c H locs cells slots (MQ below (xQ D dA s0 none To No Zo Io Lo Ro) args s kc ks (fun q => s0 ≤ q)) (F0 m 60 ls [.ref z1, .ref z0]) := by
  have hx := X.1.1
  have hb := X.1.2.1
  unfold fX5_init_b60 at hf
  replace hf := tg_s hf; obtain ⟨ht1, hf⟩ := hf
  replace hf := nm_s hf; obtain ⟨R2, hR2, hf⟩ := hf
  refine x_putr (pc := 60) X V okX5 (by decide) ht1 9 (by decide) q1530 (Or.inr ⟨rfl, hini, rfl⟩) hR2 (fun _ _ _ => rfl) (v := .ref z1) rfl rfl rfl dX5_init_60 (fun H locs V => ?_)
  refine lv_aload_n (pc := 63) hx hb dX5_init_63 rfl (lv_at hl 0 rfl) ?_
  refine lv_bipush (pc := 64) (v := (ii 16)) hx hb dX5_init_64 (by decide) ?_
  replace hf := nm_s hf; obtain ⟨T3, hT3, hf⟩ := hf
  replace hf := nm_s hf; obtain ⟨N4, hN4, hf⟩ := hf
  replace hf := nm_s hf; obtain ⟨Z5, hZ5, hf⟩ := hf
  replace hf := nm_s hf; obtain ⟨S6, hS6, hf⟩ := hf
  have hm := zX5_init_b68 hf
  refine x_newa (pc := 66) X V (atype := .int) (k := 0) rfl (by decide) q192 (by decide) hT3 hN4 hZ5 (by show _ ≤ kc; omega) (by show _ ≤ ks; omega) dX5_init_66 (fun H V => ?_)
  exact wX5_init_b68 X hr hini hf V (lv_sub hl [0] rfl) ⟨by omega, by omega⟩
set_option maxHeartbeats 400000 in
set_option maxRecDepth 100000 in
theorem zX5_init_b51 {T : xT} {N : xT} {Z : Nat} {S : Nat} {I : xI} {L : xL} {R : xR}  {x0 : Nat} {z0 : Nat} {z1 : Nat} {To : xT} {No : xT} {Zo : Nat} {So : Nat} {Io : xI} {Lo : xL} {Ro : xR}  (hf : fX5_init_b51 T N Z S I L R x0 z0 z1 = some (To, No, Zo, So, Io, Lo, Ro)) : Z ≤ Zo ∧ S ≤ So := by
  unfold fX5_init_b51 at hf
  replace hf := tg_s hf; obtain ⟨ht1, hf⟩ := hf
  replace hf := nm_s hf; obtain ⟨R2, hR2, hf⟩ := hf
  replace hf := nm_s hf; obtain ⟨T3, hT3, hf⟩ := hf
  replace hf := nm_s hf; obtain ⟨N4, hN4, hf⟩ := hf
  replace hf := nm_s hf; obtain ⟨Z5, hZ5, hf⟩ := hf
  replace hf := nm_s hf; obtain ⟨S6, hS6, hf⟩ := hf
  have hm := zX5_init_b60 hf
  exact ⟨by omega, by omega⟩
set_option maxHeartbeats 400000 in
set_option maxRecDepth 100000 in
theorem wX5_init_b51 {kc ks : Nat} {cells slots : Nat} {p : Program} {l : Launch} {e : Env} {s : State} {m : MethodId} {args : Array Value} {below : List Frame} {meth : Method} {c : Code} {D : va_G} {dA : Nat → ClassId} {s0 : Nat} {T : xT} {N : xT} {Z : Nat} {S : Nat} {I : xI} {L : xL} {R : xR} {H : Heap} {locs : List Loc} {ls : Array Slot}  {x0 : Nat} {z0 : Nat} {z1 : Nat} {To : xT} {No : xT} {Zo : Nat} {So : Nat} {Io : xI} {Lo : xL} {Ro : xR} (X : Cx D dA s0 p m c cX5_init 1 s args RX5 meth) (hr : meth.sig.returnType = none) (hini : meth.name = "<init>")   (hf : fX5_init_b51 T N Z S I L R x0 z0 z1 = some (To, No, Zo, So, Io, Lo, Ro)) (V : Iv D dA s0 s T N Z I L R H locs) (hl : lv_has ls 1 [(0, .ref x0)]) (hB : cells + (Zo - Z) ≤ kc ∧ slots + (So - S) ≤ ks) : W p l e { frames := 1, cells := kc, slots := ks, locals := 20 } s m args below meth c H locs cells slots (MQ below (xQ D dA s0 none To No Zo Io Lo Ro) args s kc ks (fun q => s0 ≤ q)) (F0 m 51 ls [.ref z1, .ref z0]) := by
  have hx := X.1.1
  have hb := X.1.2.1
  unfold fX5_init_b51 at hf
  replace hf := tg_s hf; obtain ⟨ht1, hf⟩ := hf
  replace hf := nm_s hf; obtain ⟨R2, hR2, hf⟩ := hf
  refine x_putr (pc := 51) X V okX5 (by decide) ht1 7 (by decide) q1528 (Or.inr ⟨rfl, hini, rfl⟩) hR2 (fun _ _ _ => rfl) (v := .ref z1) rfl rfl rfl dX5_init_51 (fun H locs V => ?_)
  refine lv_aload_n (pc := 54) hx hb dX5_init_54 rfl (lv_at hl 0 rfl) ?_
  refine lv_sipush (pc := 55) (v := (ii 336)) hx hb dX5_init_55 (by decide) ?_
  replace hf := nm_s hf; obtain ⟨T3, hT3, hf⟩ := hf
  replace hf := nm_s hf; obtain ⟨N4, hN4, hf⟩ := hf
  replace hf := nm_s hf; obtain ⟨Z5, hZ5, hf⟩ := hf
  replace hf := nm_s hf; obtain ⟨S6, hS6, hf⟩ := hf
  have hm := zX5_init_b60 hf
  refine x_newa (pc := 58) X V (atype := .int) (k := 0) rfl (by decide) q192 (by decide) hT3 hN4 hZ5 (by show _ ≤ kc; omega) (by show _ ≤ ks; omega) dX5_init_58 (fun H V => ?_)
  exact wX5_init_b60 X hr hini hf V (lv_sub hl [0] rfl) ⟨by omega, by omega⟩
set_option maxHeartbeats 400000 in
set_option maxRecDepth 100000 in
theorem zX5_init_b43 {T : xT} {N : xT} {Z : Nat} {S : Nat} {I : xI} {L : xL} {R : xR}  {x0 : Nat} {z0 : Nat} {z1 : Nat} {To : xT} {No : xT} {Zo : Nat} {So : Nat} {Io : xI} {Lo : xL} {Ro : xR}  (hf : fX5_init_b43 T N Z S I L R x0 z0 z1 = some (To, No, Zo, So, Io, Lo, Ro)) : Z ≤ Zo ∧ S ≤ So := by
  unfold fX5_init_b43 at hf
  replace hf := tg_s hf; obtain ⟨ht1, hf⟩ := hf
  replace hf := nm_s hf; obtain ⟨R2, hR2, hf⟩ := hf
  replace hf := nm_s hf; obtain ⟨T3, hT3, hf⟩ := hf
  replace hf := nm_s hf; obtain ⟨N4, hN4, hf⟩ := hf
  replace hf := nm_s hf; obtain ⟨Z5, hZ5, hf⟩ := hf
  replace hf := nm_s hf; obtain ⟨S6, hS6, hf⟩ := hf
  have hm := zX5_init_b51 hf
  exact ⟨by omega, by omega⟩
set_option maxHeartbeats 400000 in
set_option maxRecDepth 100000 in
theorem wX5_init_b43 {kc ks : Nat} {cells slots : Nat} {p : Program} {l : Launch} {e : Env} {s : State} {m : MethodId} {args : Array Value} {below : List Frame} {meth : Method} {c : Code} {D : va_G} {dA : Nat → ClassId} {s0 : Nat} {T : xT} {N : xT} {Z : Nat} {S : Nat} {I : xI} {L : xL} {R : xR} {H : Heap} {locs : List Loc} {ls : Array Slot}  {x0 : Nat} {z0 : Nat} {z1 : Nat} {To : xT} {No : xT} {Zo : Nat} {So : Nat} {Io : xI} {Lo : xL} {Ro : xR} (X : Cx D dA s0 p m c cX5_init 1 s args RX5 meth) (hr : meth.sig.returnType = none) (hini : meth.name = "<init>")   (hf : fX5_init_b43 T N Z S I L R x0 z0 z1 = some (To, No, Zo, So, Io, Lo, Ro)) (V : Iv D dA s0 s T N Z I L R H locs) (hl : lv_has ls 1 [(0, .ref x0)]) (hB : cells + (Zo - Z) ≤ kc ∧ slots + (So - S) ≤ ks) : W p l e { frames := 1, cells := kc, slots := ks, locals := 20 } s m args below meth c H locs cells slots (MQ below (xQ D dA s0 none To No Zo Io Lo Ro) args s kc ks (fun q => s0 ≤ q)) (F0 m 43 ls [.ref z1, .ref z0]) := by
  have hx := X.1.1
  have hb := X.1.2.1
  unfold fX5_init_b43 at hf
  replace hf := tg_s hf; obtain ⟨ht1, hf⟩ := hf
  replace hf := nm_s hf; obtain ⟨R2, hR2, hf⟩ := hf
  refine x_putr (pc := 43) X V okX5 (by decide) ht1 6 (by decide) q1527 (Or.inr ⟨rfl, hini, rfl⟩) hR2 (fun _ _ _ => rfl) (v := .ref z1) rfl rfl rfl dX5_init_43 (fun H locs V => ?_)
  refine lv_aload_n (pc := 46) hx hb dX5_init_46 rfl (lv_at hl 0 rfl) ?_
  refine lv_bipush (pc := 47) (v := (ii 16)) hx hb dX5_init_47 (by decide) ?_
  replace hf := nm_s hf; obtain ⟨T3, hT3, hf⟩ := hf
  replace hf := nm_s hf; obtain ⟨N4, hN4, hf⟩ := hf
  replace hf := nm_s hf; obtain ⟨Z5, hZ5, hf⟩ := hf
  replace hf := nm_s hf; obtain ⟨S6, hS6, hf⟩ := hf
  have hm := zX5_init_b51 hf
  refine x_newa (pc := 49) X V (atype := .int) (k := 0) rfl (by decide) q192 (by decide) hT3 hN4 hZ5 (by show _ ≤ kc; omega) (by show _ ≤ ks; omega) dX5_init_49 (fun H V => ?_)
  exact wX5_init_b51 X hr hini hf V (lv_sub hl [0] rfl) ⟨by omega, by omega⟩
set_option maxHeartbeats 400000 in
set_option maxRecDepth 100000 in
theorem zX5_init_b34 {T : xT} {N : xT} {Z : Nat} {S : Nat} {I : xI} {L : xL} {R : xR}  {x0 : Nat} {z0 : Nat} {z1 : Nat} {To : xT} {No : xT} {Zo : Nat} {So : Nat} {Io : xI} {Lo : xL} {Ro : xR}  (hf : fX5_init_b34 T N Z S I L R x0 z0 z1 = some (To, No, Zo, So, Io, Lo, Ro)) : Z ≤ Zo ∧ S ≤ So := by
  unfold fX5_init_b34 at hf
  replace hf := tg_s hf; obtain ⟨ht1, hf⟩ := hf
  replace hf := nm_s hf; obtain ⟨R2, hR2, hf⟩ := hf
  replace hf := nm_s hf; obtain ⟨T3, hT3, hf⟩ := hf
  replace hf := nm_s hf; obtain ⟨N4, hN4, hf⟩ := hf
  replace hf := nm_s hf; obtain ⟨Z5, hZ5, hf⟩ := hf
  replace hf := nm_s hf; obtain ⟨S6, hS6, hf⟩ := hf
  have hm := zX5_init_b43 hf
  exact ⟨by omega, by omega⟩
set_option maxHeartbeats 400000 in
set_option maxRecDepth 100000 in
theorem wX5_init_b34 {kc ks : Nat} {cells slots : Nat} {p : Program} {l : Launch} {e : Env} {s : State} {m : MethodId} {args : Array Value} {below : List Frame} {meth : Method} {c : Code} {D : va_G} {dA : Nat → ClassId} {s0 : Nat} {T : xT} {N : xT} {Z : Nat} {S : Nat} {I : xI} {L : xL} {R : xR} {H : Heap} {locs : List Loc} {ls : Array Slot}  {x0 : Nat} {z0 : Nat} {z1 : Nat} {To : xT} {No : xT} {Zo : Nat} {So : Nat} {Io : xI} {Lo : xL} {Ro : xR} (X : Cx D dA s0 p m c cX5_init 1 s args RX5 meth) (hr : meth.sig.returnType = none) (hini : meth.name = "<init>")   (hf : fX5_init_b34 T N Z S I L R x0 z0 z1 = some (To, No, Zo, So, Io, Lo, Ro)) (V : Iv D dA s0 s T N Z I L R H locs) (hl : lv_has ls 1 [(0, .ref x0)]) (hB : cells + (Zo - Z) ≤ kc ∧ slots + (So - S) ≤ ks) : W p l e { frames := 1, cells := kc, slots := ks, locals := 20 } s m args below meth c H locs cells slots (MQ below (xQ D dA s0 none To No Zo Io Lo Ro) args s kc ks (fun q => s0 ≤ q)) (F0 m 34 ls [.ref z1, .ref z0]) := by
  have hx := X.1.1
  have hb := X.1.2.1
  unfold fX5_init_b34 at hf
  replace hf := tg_s hf; obtain ⟨ht1, hf⟩ := hf
  replace hf := nm_s hf; obtain ⟨R2, hR2, hf⟩ := hf
  refine x_putr (pc := 34) X V okX5 (by decide) ht1 5 (by decide) q1526 (Or.inr ⟨rfl, hini, rfl⟩) hR2 (fun _ _ _ => rfl) (v := .ref z1) rfl rfl rfl dX5_init_34 (fun H locs V => ?_)
  refine lv_aload_n (pc := 37) hx hb dX5_init_37 rfl (lv_at hl 0 rfl) ?_
  refine lv_sipush (pc := 38) (v := (ii 378)) hx hb dX5_init_38 (by decide) ?_
  replace hf := nm_s hf; obtain ⟨T3, hT3, hf⟩ := hf
  replace hf := nm_s hf; obtain ⟨N4, hN4, hf⟩ := hf
  replace hf := nm_s hf; obtain ⟨Z5, hZ5, hf⟩ := hf
  replace hf := nm_s hf; obtain ⟨S6, hS6, hf⟩ := hf
  have hm := zX5_init_b43 hf
  refine x_newa (pc := 41) X V (atype := .int) (k := 0) rfl (by decide) q192 (by decide) hT3 hN4 hZ5 (by show _ ≤ kc; omega) (by show _ ≤ ks; omega) dX5_init_41 (fun H V => ?_)
  exact wX5_init_b43 X hr hini hf V (lv_sub hl [0] rfl) ⟨by omega, by omega⟩
set_option maxHeartbeats 400000 in
set_option maxRecDepth 100000 in
theorem zX5_init_b27 {T : xT} {N : xT} {Z : Nat} {S : Nat} {I : xI} {L : xL} {R : xR}  {x0 : Nat} {z0 : Nat} {z1 : Nat} {To : xT} {No : xT} {Zo : Nat} {So : Nat} {Io : xI} {Lo : xL} {Ro : xR}  (hf : fX5_init_b27 T N Z S I L R x0 z0 z1 = some (To, No, Zo, So, Io, Lo, Ro)) : Z ≤ Zo ∧ S ≤ So := by
  unfold fX5_init_b27 at hf
  replace hf := tg_s hf; obtain ⟨ht1, hf⟩ := hf
  replace hf := nm_s hf; obtain ⟨R2, hR2, hf⟩ := hf
  replace hf := nm_s hf; obtain ⟨T3, hT3, hf⟩ := hf
  replace hf := nm_s hf; obtain ⟨N4, hN4, hf⟩ := hf
  replace hf := nm_s hf; obtain ⟨Z5, hZ5, hf⟩ := hf
  replace hf := nm_s hf; obtain ⟨S6, hS6, hf⟩ := hf
  have hm := zX5_init_b34 hf
  exact ⟨by omega, by omega⟩
set_option maxHeartbeats 400000 in
set_option maxRecDepth 100000 in
theorem wX5_init_b27 {kc ks : Nat} {cells slots : Nat} {p : Program} {l : Launch} {e : Env} {s : State} {m : MethodId} {args : Array Value} {below : List Frame} {meth : Method} {c : Code} {D : va_G} {dA : Nat → ClassId} {s0 : Nat} {T : xT} {N : xT} {Z : Nat} {S : Nat} {I : xI} {L : xL} {R : xR} {H : Heap} {locs : List Loc} {ls : Array Slot}  {x0 : Nat} {z0 : Nat} {z1 : Nat} {To : xT} {No : xT} {Zo : Nat} {So : Nat} {Io : xI} {Lo : xL} {Ro : xR} (X : Cx D dA s0 p m c cX5_init 1 s args RX5 meth) (hr : meth.sig.returnType = none) (hini : meth.name = "<init>")   (hf : fX5_init_b27 T N Z S I L R x0 z0 z1 = some (To, No, Zo, So, Io, Lo, Ro)) (V : Iv D dA s0 s T N Z I L R H locs) (hl : lv_has ls 1 [(0, .ref x0)]) (hB : cells + (Zo - Z) ≤ kc ∧ slots + (So - S) ≤ ks) : W p l e { frames := 1, cells := kc, slots := ks, locals := 20 } s m args below meth c H locs cells slots (MQ below (xQ D dA s0 none To No Zo Io Lo Ro) args s kc ks (fun q => s0 ≤ q)) (F0 m 27 ls [.ref z1, .ref z0]) := by
  have hx := X.1.1
  have hb := X.1.2.1
  unfold fX5_init_b27 at hf
  replace hf := tg_s hf; obtain ⟨ht1, hf⟩ := hf
  replace hf := nm_s hf; obtain ⟨R2, hR2, hf⟩ := hf
  refine x_putr (pc := 27) X V okX5 (by decide) ht1 4 (by decide) q1525 (Or.inr ⟨rfl, hini, rfl⟩) hR2 (fun _ _ _ => rfl) (v := .ref z1) rfl rfl rfl dX5_init_27 (fun H locs V => ?_)
  refine lv_aload_n (pc := 30) hx hb dX5_init_30 rfl (lv_at hl 0 rfl) ?_
  refine lv_iconst (pc := 31) (v := (ii 2)) hx hb dX5_init_31 (by decide) ?_
  replace hf := nm_s hf; obtain ⟨T3, hT3, hf⟩ := hf
  replace hf := nm_s hf; obtain ⟨N4, hN4, hf⟩ := hf
  replace hf := nm_s hf; obtain ⟨Z5, hZ5, hf⟩ := hf
  replace hf := nm_s hf; obtain ⟨S6, hS6, hf⟩ := hf
  have hm := zX5_init_b34 hf
  refine x_newa (pc := 32) X V (atype := .boolean) (k := 2) rfl (by decide) q1696 (by decide) hT3 hN4 hZ5 (by show _ ≤ kc; omega) (by show _ ≤ ks; omega) dX5_init_32 (fun H V => ?_)
  exact wX5_init_b34 X hr hini hf V (lv_sub hl [0] rfl) ⟨by omega, by omega⟩
set_option maxHeartbeats 400000 in
set_option maxRecDepth 100000 in
theorem zX5_init_b18 {T : xT} {N : xT} {Z : Nat} {S : Nat} {I : xI} {L : xL} {R : xR}  {x0 : Nat} {z0 : Nat} {z1 : Nat} {To : xT} {No : xT} {Zo : Nat} {So : Nat} {Io : xI} {Lo : xL} {Ro : xR}  (hf : fX5_init_b18 T N Z S I L R x0 z0 z1 = some (To, No, Zo, So, Io, Lo, Ro)) : Z ≤ Zo ∧ S ≤ So := by
  unfold fX5_init_b18 at hf
  replace hf := tg_s hf; obtain ⟨ht1, hf⟩ := hf
  replace hf := nm_s hf; obtain ⟨R2, hR2, hf⟩ := hf
  replace hf := nm_s hf; obtain ⟨T3, hT3, hf⟩ := hf
  replace hf := nm_s hf; obtain ⟨N4, hN4, hf⟩ := hf
  replace hf := nm_s hf; obtain ⟨Z5, hZ5, hf⟩ := hf
  replace hf := nm_s hf; obtain ⟨S6, hS6, hf⟩ := hf
  have hm := zX5_init_b27 hf
  exact ⟨by omega, by omega⟩
set_option maxHeartbeats 400000 in
set_option maxRecDepth 100000 in
theorem wX5_init_b18 {kc ks : Nat} {cells slots : Nat} {p : Program} {l : Launch} {e : Env} {s : State} {m : MethodId} {args : Array Value} {below : List Frame} {meth : Method} {c : Code} {D : va_G} {dA : Nat → ClassId} {s0 : Nat} {T : xT} {N : xT} {Z : Nat} {S : Nat} {I : xI} {L : xL} {R : xR} {H : Heap} {locs : List Loc} {ls : Array Slot}  {x0 : Nat} {z0 : Nat} {z1 : Nat} {To : xT} {No : xT} {Zo : Nat} {So : Nat} {Io : xI} {Lo : xL} {Ro : xR} (X : Cx D dA s0 p m c cX5_init 1 s args RX5 meth) (hr : meth.sig.returnType = none) (hini : meth.name = "<init>")   (hf : fX5_init_b18 T N Z S I L R x0 z0 z1 = some (To, No, Zo, So, Io, Lo, Ro)) (V : Iv D dA s0 s T N Z I L R H locs) (hl : lv_has ls 1 [(0, .ref x0)]) (hB : cells + (Zo - Z) ≤ kc ∧ slots + (So - S) ≤ ks) : W p l e { frames := 1, cells := kc, slots := ks, locals := 20 } s m args below meth c H locs cells slots (MQ below (xQ D dA s0 none To No Zo Io Lo Ro) args s kc ks (fun q => s0 ≤ q)) (F0 m 18 ls [.ref z1, .ref z0]) := by
  have hx := X.1.1
  have hb := X.1.2.1
  unfold fX5_init_b18 at hf
  replace hf := tg_s hf; obtain ⟨ht1, hf⟩ := hf
  replace hf := nm_s hf; obtain ⟨R2, hR2, hf⟩ := hf
  refine x_putr (pc := 18) X V okX5 (by decide) ht1 3 (by decide) q1524 (Or.inr ⟨rfl, hini, rfl⟩) hR2 (fun _ _ _ => rfl) (v := .ref z1) rfl rfl rfl dX5_init_18 (fun H locs V => ?_)
  refine lv_aload_n (pc := 21) hx hb dX5_init_21 rfl (lv_at hl 0 rfl) ?_
  refine lv_sipush (pc := 22) (v := (ii 10952)) hx hb dX5_init_22 (by decide) ?_
  replace hf := nm_s hf; obtain ⟨T3, hT3, hf⟩ := hf
  replace hf := nm_s hf; obtain ⟨N4, hN4, hf⟩ := hf
  replace hf := nm_s hf; obtain ⟨Z5, hZ5, hf⟩ := hf
  replace hf := nm_s hf; obtain ⟨S6, hS6, hf⟩ := hf
  have hm := zX5_init_b27 hf
  refine x_newa (pc := 25) X V (atype := .int) (k := 0) rfl (by decide) q192 (by decide) hT3 hN4 hZ5 (by show _ ≤ kc; omega) (by show _ ≤ ks; omega) dX5_init_25 (fun H V => ?_)
  exact wX5_init_b27 X hr hini hf V (lv_sub hl [0] rfl) ⟨by omega, by omega⟩
set_option maxHeartbeats 400000 in
set_option maxRecDepth 100000 in
theorem zX5_init_b9 {T : xT} {N : xT} {Z : Nat} {S : Nat} {I : xI} {L : xL} {R : xR}  {x0 : Nat} {z0 : Nat} {z1 : Nat} {To : xT} {No : xT} {Zo : Nat} {So : Nat} {Io : xI} {Lo : xL} {Ro : xR}  (hf : fX5_init_b9 T N Z S I L R x0 z0 z1 = some (To, No, Zo, So, Io, Lo, Ro)) : Z ≤ Zo ∧ S ≤ So := by
  unfold fX5_init_b9 at hf
  replace hf := tg_s hf; obtain ⟨ht1, hf⟩ := hf
  replace hf := nm_s hf; obtain ⟨R2, hR2, hf⟩ := hf
  replace hf := nm_s hf; obtain ⟨T3, hT3, hf⟩ := hf
  replace hf := nm_s hf; obtain ⟨N4, hN4, hf⟩ := hf
  replace hf := nm_s hf; obtain ⟨Z5, hZ5, hf⟩ := hf
  replace hf := nm_s hf; obtain ⟨S6, hS6, hf⟩ := hf
  have hm := zX5_init_b18 hf
  exact ⟨by omega, by omega⟩
set_option maxHeartbeats 400000 in
set_option maxRecDepth 100000 in
theorem wX5_init_b9 {kc ks : Nat} {cells slots : Nat} {p : Program} {l : Launch} {e : Env} {s : State} {m : MethodId} {args : Array Value} {below : List Frame} {meth : Method} {c : Code} {D : va_G} {dA : Nat → ClassId} {s0 : Nat} {T : xT} {N : xT} {Z : Nat} {S : Nat} {I : xI} {L : xL} {R : xR} {H : Heap} {locs : List Loc} {ls : Array Slot}  {x0 : Nat} {z0 : Nat} {z1 : Nat} {To : xT} {No : xT} {Zo : Nat} {So : Nat} {Io : xI} {Lo : xL} {Ro : xR} (X : Cx D dA s0 p m c cX5_init 1 s args RX5 meth) (hr : meth.sig.returnType = none) (hini : meth.name = "<init>")   (hf : fX5_init_b9 T N Z S I L R x0 z0 z1 = some (To, No, Zo, So, Io, Lo, Ro)) (V : Iv D dA s0 s T N Z I L R H locs) (hl : lv_has ls 1 [(0, .ref x0)]) (hB : cells + (Zo - Z) ≤ kc ∧ slots + (So - S) ≤ ks) : W p l e { frames := 1, cells := kc, slots := ks, locals := 20 } s m args below meth c H locs cells slots (MQ below (xQ D dA s0 none To No Zo Io Lo Ro) args s kc ks (fun q => s0 ≤ q)) (F0 m 9 ls [.ref z1, .ref z0]) := by
  have hx := X.1.1
  have hb := X.1.2.1
  unfold fX5_init_b9 at hf
  replace hf := tg_s hf; obtain ⟨ht1, hf⟩ := hf
  replace hf := nm_s hf; obtain ⟨R2, hR2, hf⟩ := hf
  refine x_putr (pc := 9) X V okX5 (by decide) ht1 2 (by decide) q1523 (Or.inr ⟨rfl, hini, rfl⟩) hR2 (fun _ _ _ => rfl) (v := .ref z1) rfl rfl rfl dX5_init_9 (fun H locs V => ?_)
  refine lv_aload_n (pc := 12) hx hb dX5_init_12 rfl (lv_at hl 0 rfl) ?_
  refine lv_sipush (pc := 13) (v := (ii 5476)) hx hb dX5_init_13 (by decide) ?_
  replace hf := nm_s hf; obtain ⟨T3, hT3, hf⟩ := hf
  replace hf := nm_s hf; obtain ⟨N4, hN4, hf⟩ := hf
  replace hf := nm_s hf; obtain ⟨Z5, hZ5, hf⟩ := hf
  replace hf := nm_s hf; obtain ⟨S6, hS6, hf⟩ := hf
  have hm := zX5_init_b18 hf
  refine x_newa (pc := 16) X V (atype := .int) (k := 0) rfl (by decide) q192 (by decide) hT3 hN4 hZ5 (by show _ ≤ kc; omega) (by show _ ≤ ks; omega) dX5_init_16 (fun H V => ?_)
  exact wX5_init_b18 X hr hini hf V (lv_sub hl [0] rfl) ⟨by omega, by omega⟩
set_option maxHeartbeats 400000 in
set_option maxRecDepth 100000 in
theorem zX5_init {T : xT} {N : xT} {Z : Nat} {S : Nat} {I : xI} {L : xL} {R : xR} {x0 : Nat} {To : xT} {No : xT} {Zo : Nat} {So : Nat} {Io : xI} {Lo : xL} {Ro : xR} (hf : fX5_init T N Z S I L R x0 = some (To, No, Zo, So, Io, Lo, Ro)) : Z ≤ Zo ∧ S ≤ So := by
  unfold fX5_init at hf
  replace hf := nm_s hf; obtain ⟨T1, hT1, hf⟩ := hf
  replace hf := nm_s hf; obtain ⟨N2, hN2, hf⟩ := hf
  replace hf := nm_s hf; obtain ⟨Z3, hZ3, hf⟩ := hf
  replace hf := nm_s hf; obtain ⟨S4, hS4, hf⟩ := hf
  have hm := zX5_init_b9 hf
  exact ⟨by omega, by omega⟩
set_option maxHeartbeats 400000 in
set_option maxRecDepth 100000 in
theorem wX5_init_e {kc ks : Nat} {cells slots : Nat} {p : Program} {l : Launch} {e : Env} {s : State} {m : MethodId} {args : Array Value} {below : List Frame} {meth : Method} {c : Code} {D : va_G} {dA : Nat → ClassId} {s0 : Nat} {T : xT} {N : xT} {Z : Nat} {S : Nat} {I : xI} {L : xL} {R : xR} {H : Heap} {locs : List Loc} {ls : Array Slot} {x0 : Nat} {To : xT} {No : xT} {Zo : Nat} {So : Nat} {Io : xI} {Lo : xL} {Ro : xR} (X : Cx D dA s0 p m c cX5_init 1 s args RX5 meth) (hr : meth.sig.returnType = none) (hini : meth.name = "<init>") (hf : fX5_init T N Z S I L R x0 = some (To, No, Zo, So, Io, Lo, Ro)) (V : Iv D dA s0 s T N Z I L R H locs) (hl : lv_has ls 1 [(0, .ref x0)]) (hB : cells + (Zo - Z) ≤ kc ∧ slots + (So - S) ≤ ks) : W p l e { frames := 1, cells := kc, slots := ks, locals := 20 } s m args below meth c H locs cells slots (MQ below (xQ D dA s0 none To No Zo Io Lo Ro) args s kc ks (fun q => s0 ≤ q)) (F0 m 0 ls []) := by
  have hx := X.1.1
  have hb := X.1.2.1
  unfold fX5_init at hf
  refine lv_aload_n (pc := 0) hx hb dX5_init_0 rfl (lv_at hl 0 rfl) ?_
  refine x_objInit (pc := 1) X q1498 q161 q162 hl.1 (Nat.le_of_ble_eq_true rfl) (Nat.le_of_ble_eq_true rfl) dX5_init_1 ?_
  refine lv_aload_n (pc := 4) hx hb dX5_init_4 rfl (lv_at hl 0 rfl) ?_
  refine lv_bipush (pc := 5) (v := (ii 7)) hx hb dX5_init_5 (by decide) ?_
  replace hf := nm_s hf; obtain ⟨T1, hT1, hf⟩ := hf
  replace hf := nm_s hf; obtain ⟨N2, hN2, hf⟩ := hf
  replace hf := nm_s hf; obtain ⟨Z3, hZ3, hf⟩ := hf
  replace hf := nm_s hf; obtain ⟨S4, hS4, hf⟩ := hf
  have hm := zX5_init_b9 hf
  refine x_newa (pc := 7) X V (atype := .int) (k := 0) rfl (by decide) q192 (by decide) hT1 hN2 hZ3 (by show _ ≤ kc; omega) (by show _ ≤ ks; omega) dX5_init_7 (fun H V => ?_)
  exact wX5_init_b9 X hr hini hf V (lv_sub hl [0] rfl) ⟨by omega, by omega⟩
theorem mX5_init (l : Launch) (D : va_G) (dA : Nat → ClassId) (s0 : Nat) {kc ks : Nat} {T : xT} {N : xT} {Z : Nat} {S : Nat} {I : xI} {L : xL} {R : xR} {x0 : Nat} {To : xT} {No : xT} {Zo : Nat} {So : Nat} {Io : xI} {Lo : xL} {Ro : xR} (hZ : Zo - Z ≤ kc) (hS : So - S ≤ ks) (hf : fX5_init T N Z S I L R x0 = some (To, No, Zo, So, Io, Lo, Ro)) : XMet l D dA s0 yX5_init (ws_ yX5_init cX5_init 1 (none)) (1) (20) [.ref x0] T N Z I L R none To No Zo Io Lo Ro kc ks :=
  x_start (own := RX5) rfl (by decide) (Nat.le_of_ble_eq_true rfl) (lv := [(0, .ref x0)]) rfl (fun p e s m below meth c ls X hr hini V hl => wX5_init_e X hr hini hf V hl ⟨by omega, by omega⟩)
set_option maxHeartbeats 400000 in
set_option maxRecDepth 100000 in
theorem wX5_tell_b10 {p : Program} {l : Launch} {e : Env} {s : State} {m : MethodId} {args : Array Value} {below : List Frame} {meth : Method} {c : Code} {D : va_G} {dA : Nat → ClassId} {s0 : Nat} {T : xT} {N : xT} {Z : Nat} {I : xI} {L : xL} {R : xR} {H : Heap} {locs : List Loc} {ls : Array Slot}  {x0 : Nat} {x1 : Int32} {z0 : Nat} {z1 : Int32} {ro : Int32} {Io : xI} (X : Cx D dA s0 p m c cX5_tell 2 s args RX5 meth) (hr : meth.sig.returnType = (some .int))   (hf : fX5_tell_b10 T N I R x0 x1 z0 z1 = some (ro, Io)) (V : Iv D dA s0 s T N Z I L R H locs) (hl : lv_has ls 2 [(0, .ref x0), (1, .int x1)]) : W p l e { frames := 0, cells := 0, slots := 0, locals := 0 } s m args below meth c H locs 0 0 (MQ below (xQ D dA s0 (some (.int ro)) T N Z Io L R) args s 0 0 (fun q => s0 ≤ q)) (F0 m 10 ls [.int z1, .ref z0]) := by
  have hx := X.1.1
  have hb := X.1.2.1
  unfold fX5_tell_b10 at hf
  replace hf := tg_s hf; obtain ⟨ht1, hf⟩ := hf
  replace hf := nm_s hf; obtain ⟨I2, hI2, hf⟩ := hf
  refine x_puti (pc := 10) X V okX5 (by decide) ht1 1 (by decide) q1522 (Or.inl rfl) hI2 (fun _ _ _ => rfl) rfl rfl dX5_tell_10 (fun H locs V => ?_)
  refine lv_iload_n (pc := 13) hx hb dX5_tell_13 rfl (lv_at hl 1 rfl) ?_
  refine lv_if_ge (pc := 14) (tgt := 28) hx hb dX5_tell_14 (by decide) (fun c3 => ?_) (fun c3 => ?_)
  · replace hf := if_t hf c3
    refine lv_iload_n (pc := 28) hx hb dX5_tell_28 rfl (lv_at hl 1 rfl) ?_
    cases hf
    exact x_iret (pc := 29) X V hr dX5_tell_29
  · replace hf := if_f hf c3
    refine lv_aload_n (pc := 17) hx hb dX5_tell_17 rfl (lv_at hl 0 rfl) ?_
    replace hf := tg_s hf; obtain ⟨ht4, hf⟩ := hf
    replace hf := bs hf; obtain ⟨a5, ha5, hf⟩ := hf
    refine x_get (pc := 18) X V okX5 ht4 2 (by decide) q1523 (v := va_rf (R x0 2)) rfl dX5_tell_18 ?_
    refine x_topr ha5 ?_
    refine lv_iload_n (pc := 21) hx hb dX5_tell_21 rfl (lv_at hl 1 rfl) ?_
    refine lv_ineg (pc := 22) hx hb dX5_tell_22 ?_
    refine lv_dup2_11 (pc := 23) hx hb dX5_tell_23 rfl rfl ?_
    replace hf := rA_s hf; obtain ⟨j6, hjj6, htj6, hij6, hf⟩ := hf
    refine x_iald (pc := 24) X V htj6 hij6 hjj6 dX5_tell_24 ?_
    refine lv_iconst (pc := 25) (v := (ii 1)) hx hb dX5_tell_25 (by decide) ?_
    refine lv_iadd (pc := 26) hx hb dX5_tell_26 ?_
    replace hf := nm_s hf; obtain ⟨I7, hI7, hf⟩ := hf
    refine x_iast (pc := 27) X V htj6 hij6 hjj6 hI7 dX5_tell_27 (fun H locs V => ?_)
    refine lv_iload_n (pc := 28) hx hb dX5_tell_28 rfl (lv_at hl 1 rfl) ?_
    cases hf
    exact x_iret (pc := 29) X V hr dX5_tell_29
set_option maxHeartbeats 400000 in
set_option maxRecDepth 100000 in
theorem wX5_tell_e {p : Program} {l : Launch} {e : Env} {s : State} {m : MethodId} {args : Array Value} {below : List Frame} {meth : Method} {c : Code} {D : va_G} {dA : Nat → ClassId} {s0 : Nat} {T : xT} {N : xT} {Z : Nat} {I : xI} {L : xL} {R : xR} {H : Heap} {locs : List Loc} {ls : Array Slot} {x0 : Nat} {x1 : Int32} {ro : Int32} {Io : xI} (X : Cx D dA s0 p m c cX5_tell 2 s args RX5 meth) (hr : meth.sig.returnType = (some .int)) (hf : fX5_tell T N I R x0 x1 = some (ro, Io)) (V : Iv D dA s0 s T N Z I L R H locs) (hl : lv_has ls 2 [(0, .ref x0), (1, .int x1)]) : W p l e { frames := 0, cells := 0, slots := 0, locals := 0 } s m args below meth c H locs 0 0 (MQ below (xQ D dA s0 (some (.int ro)) T N Z Io L R) args s 0 0 (fun q => s0 ≤ q)) (F0 m 0 ls []) := by
  have hx := X.1.1
  have hb := X.1.2.1
  unfold fX5_tell at hf
  refine lv_aload_n (pc := 0) hx hb dX5_tell_0 rfl (lv_at hl 0 rfl) ?_
  refine lv_iload_n (pc := 1) hx hb dX5_tell_1 rfl (lv_at hl 1 rfl) ?_
  refine lv_if_ge (pc := 2) (tgt := 9) hx hb dX5_tell_2 (by decide) (fun c1 => ?_) (fun c1 => ?_)
  · replace hf := if_t hf c1
    refine lv_iconst (pc := 9) (v := (ii 0)) hx hb dX5_tell_9 (by decide) ?_
    exact wX5_tell_b10 X hr hf V (lv_sub hl [0, 1] rfl)
  · replace hf := if_f hf c1
    refine lv_iload_n (pc := 5) hx hb dX5_tell_5 rfl (lv_at hl 1 rfl) ?_
    refine lv_goto (pc := 6) (tgt := 10) hx hb dX5_tell_6 (by decide) ?_
    exact wX5_tell_b10 X hr hf V (lv_sub hl [0, 1] rfl)
theorem mX5_tell (l : Launch) (D : va_G) (dA : Nat → ClassId) (s0 : Nat) {T : xT} {N : xT} {Z : Nat} {I : xI} {L : xL} {R : xR} {x0 : Nat} {x1 : Int32} {ro : Int32} {Io : xI} (hf : fX5_tell T N I R x0 x1 = some (ro, Io)) : XMet l D dA s0 yX5_tell (ws_ yX5_tell cX5_tell 2 ((some .int))) (0) (0) [.ref x0, .int x1] T N Z I L R (some (.int ro)) T N Z Io L R 0 0 :=
  x_start (own := RX5) rfl (by decide) (Nat.le_of_ble_eq_true rfl) (lv := [(0, .ref x0), (1, .int x1)]) rfl (fun p e s m below meth c ls X hr hini V hl => wX5_tell_e X hr hf V hl)
set_option maxHeartbeats 400000 in
set_option maxRecDepth 100000 in
theorem wX5_putBack_b2 {nf : Nat} {p : Program} {l : Launch} {e : Env} {s : State} {m : MethodId} {args : Array Value} {below : List Frame} {meth : Method} {c : Code} {D : va_G} {dA : Nat → ClassId} {s0 : Nat} {T : xT} {N : xT} {Z : Nat} {L : xL} {R : xR}  {Io : xI} (X : Cx D dA s0 p m c cX5_putBack 3 s args RX5 meth) (hr : meth.sig.returnType = none)   (k : Nat) : ∀ {I : xI} {x0 : Nat} {x1 : Int32} {x2 : Int32} {H : Heap} {locs : List Loc} {ls : Array Slot} , fX5_putBack_b2 nf T N R k I x0 x1 x2 = some Io → Iv D dA s0 s T N Z I L R H locs → lv_has ls 3 [(0, .ref x0), (1, .int x1), (2, .int x2)] → W p l e { frames := 0, cells := 0, slots := 0, locals := 0 } s m args below meth c H locs 0 0 (MQ below (xQ D dA s0 none T N Z Io L R) args s 0 0 (fun q => s0 ≤ q)) (F0 m 2 ls []) := by
  have hx := X.1.1
  have hb := X.1.2.1
  induction k with
  | zero =>
    intro I x0 x1 x2 H locs ls hf V hl
    exact absurd (show none = some _ from hf) (fun q => nomatch q)
  | succ k ih =>
    intro I x0 x1 x2 H locs ls hf V hl
    rw [fX5_putBack_b2] at hf
    refine lv_iload_n (pc := 2) hx hb dX5_putBack_2 rfl (lv_at hl 2 rfl) ?_
    refine lv_bipush (pc := 3) (v := (ii 21)) hx hb dX5_putBack_3 (by decide) ?_
    refine lv_icmp_ge (pc := 5) (tgt := 33) hx hb dX5_putBack_5 (by decide) (fun c1 => ?_) (fun c1 => ?_)
    · replace hf := if_t hf c1
      cases hf
      exact x_vret (pc := 33) X V hr dX5_putBack_33
    · replace hf := if_f hf c1
      refine lv_aload_n (pc := 8) hx hb dX5_putBack_8 rfl (lv_at hl 0 rfl) ?_
      replace hf := tg_s hf; obtain ⟨ht2, hf⟩ := hf
      replace hf := bs hf; obtain ⟨a3, ha3, hf⟩ := hf
      refine x_get (pc := 9) X V okX5 ht2 3 (by decide) q1524 (v := va_rf (R x0 3)) rfl dX5_putBack_9 ?_
      refine x_topr ha3 ?_
      refine lv_iconst (pc := 12) (v := (ii 5)) hx hb dX5_putBack_12 (by decide) ?_
      refine lv_iload_n (pc := 13) hx hb dX5_putBack_13 rfl (lv_at hl 2 rfl) ?_
      refine lv_iadd (pc := 14) hx hb dX5_putBack_14 ?_
      refine lv_aload_n (pc := 15) hx hb dX5_putBack_15 rfl (lv_at hl 0 rfl) ?_
      replace hf := bs hf; obtain ⟨a4, ha4, hf⟩ := hf
      refine x_get (pc := 16) X V okX5 ht2 6 (by decide) q1527 (v := va_rf (R x0 6)) rfl dX5_putBack_16 ?_
      refine x_topr ha4 ?_
      refine lv_bipush (pc := 19) (v := (ii 21)) hx hb dX5_putBack_19 (by decide) ?_
      refine lv_iload_n (pc := 21) hx hb dX5_putBack_21 rfl (lv_at hl 1 rfl) ?_
      refine lv_imul (pc := 22) hx hb dX5_putBack_22 ?_
      refine lv_iload_n (pc := 23) hx hb dX5_putBack_23 rfl (lv_at hl 2 rfl) ?_
      refine lv_iadd (pc := 24) hx hb dX5_putBack_24 ?_
      replace hf := rA_s hf; obtain ⟨j5, hjj5, htj5, hij5, hf⟩ := hf
      refine x_iald (pc := 25) X V htj5 hij5 hjj5 dX5_putBack_25 ?_
      replace hf := rA_s hf; obtain ⟨j6, hjj6, htj6, hij6, hf⟩ := hf
      replace hf := nm_s hf; obtain ⟨I7, hI7, hf⟩ := hf
      refine x_iast (pc := 26) X V htj6 hij6 hjj6 hI7 dX5_putBack_26 (fun H locs V => ?_)
      replace hf := nm_s hf; obtain ⟨u8, hu8, hf⟩ := hf
      refine lv_iinc (pc := 27) (v := u8) (lv' := [(2, .int u8), (0, .ref x0), (1, .int x1)]) hx hb dX5_putBack_27 hl (k := 2) rfl (by rw [hu8]; rfl) (by decide) rfl (fun ls hl => ?_)
      refine lv_goto (pc := 30) (tgt := 2) hx hb dX5_putBack_30 (by decide) ?_
      exact ih hf V (lv_sub hl [1, 2, 0] rfl)
set_option maxHeartbeats 400000 in
set_option maxRecDepth 100000 in
theorem wX5_putBack_e {nf : Nat} {p : Program} {l : Launch} {e : Env} {s : State} {m : MethodId} {args : Array Value} {below : List Frame} {meth : Method} {c : Code} {D : va_G} {dA : Nat → ClassId} {s0 : Nat} {T : xT} {N : xT} {Z : Nat} {I : xI} {L : xL} {R : xR} {H : Heap} {locs : List Loc} {ls : Array Slot} {x0 : Nat} {x1 : Int32} {Io : xI} (X : Cx D dA s0 p m c cX5_putBack 3 s args RX5 meth) (hr : meth.sig.returnType = none) (hf : fX5_putBack nf T N I R x0 x1 = some Io) (V : Iv D dA s0 s T N Z I L R H locs) (hl : lv_has ls 3 [(0, .ref x0), (1, .int x1)]) : W p l e { frames := 0, cells := 0, slots := 0, locals := 0 } s m args below meth c H locs 0 0 (MQ below (xQ D dA s0 none T N Z Io L R) args s 0 0 (fun q => s0 ≤ q)) (F0 m 0 ls []) := by
  have hx := X.1.1
  have hb := X.1.2.1
  unfold fX5_putBack at hf
  refine lv_iconst (pc := 0) (v := (ii 0)) hx hb dX5_putBack_0 (by decide) ?_
  refine lv_istore_n (pc := 1) (lv' := [(2, .int (ii 0)), (0, .ref x0), (1, .int x1)]) hx hb dX5_putBack_1 rfl hl (by decide) rfl (fun ls hl => ?_)
  exact wX5_putBack_b2 X hr nf hf V (lv_sub hl [1, 2, 0] rfl)
theorem mX5_putBack {nf : Nat} (l : Launch) (D : va_G) (dA : Nat → ClassId) (s0 : Nat) {T : xT} {N : xT} {Z : Nat} {I : xI} {L : xL} {R : xR} {x0 : Nat} {x1 : Int32} {Io : xI} (hf : fX5_putBack nf T N I R x0 x1 = some Io) : XMet l D dA s0 yX5_putBack (ws_ yX5_putBack cX5_putBack 3 (none)) (0) (0) [.ref x0, .int x1] T N Z I L R none T N Z Io L R 0 0 :=
  x_start (own := RX5) rfl (by decide) (Nat.le_of_ble_eq_true rfl) (lv := [(0, .ref x0), (1, .int x1)]) rfl (fun p e s m below meth c ls X hr hini V hl => wX5_putBack_e X hr hf V hl)
set_option maxHeartbeats 400000 in
set_option maxRecDepth 100000 in
theorem wX5_undo_e {nf : Nat} {p : Program} {l : Launch} {e : Env} {s : State} {m : MethodId} {args : Array Value} {below : List Frame} {meth : Method} {c : Code} {D : va_G} {dA : Nat → ClassId} {s0 : Nat} {T : xT} {N : xT} {Z : Nat} {I : xI} {L : xL} {R : xR} {H : Heap} {locs : List Loc} {ls : Array Slot} {x0 : Nat} {ro : Int32} {Io : xI} (X : Cx D dA s0 p m c cX5_undo 1 s args RX5 meth) (hr : meth.sig.returnType = (some .int)) (hf : fX5_undo nf T N I R x0 = some (ro, Io)) (V : Iv D dA s0 s T N Z I L R H locs) (hl : lv_has ls 1 [(0, .ref x0)]) : W p l e { frames := 1, cells := 0, slots := 0, locals := 22 } s m args below meth c H locs 0 0 (MQ below (xQ D dA s0 (some (.int ro)) T N Z Io L R) args s 0 0 (fun q => s0 ≤ q)) (F0 m 0 ls []) := by
  have hx := X.1.1
  have hb := X.1.2.1
  unfold fX5_undo at hf
  refine lv_aload_n (pc := 0) hx hb dX5_undo_0 rfl (lv_at hl 0 rfl) ?_
  refine lv_iconst (pc := 1) (v := (ii 0)) hx hb dX5_undo_1 (by decide) ?_
  replace hf := tg_s hf; obtain ⟨ht1, hf⟩ := hf
  replace hf := nm_s hf; obtain ⟨I2, hI2, hf⟩ := hf
  refine x_puti (pc := 2) X V okX5 (by decide) ht1 0 (by decide) q1521 (Or.inl rfl) hI2 (fun _ _ _ => rfl) rfl rfl dX5_undo_2 (fun H locs V => ?_)
  refine lv_aload_n (pc := 5) hx hb dX5_undo_5 rfl (lv_at hl 0 rfl) ?_
  refine x_get (pc := 6) X V okX5 ht1 8 (by decide) q1529 (v := .int (I2 x0 8)) rfl dX5_undo_6 ?_
  refine lv_if_ne (pc := 9) (tgt := 19) hx hb dX5_undo_9 (by decide) (fun c3 => ?_) (fun c3 => ?_)
  · replace hf := if_f hf c3
    refine lv_aload_n (pc := 19) hx hb dX5_undo_19 rfl (lv_at hl 0 rfl) ?_
    refine lv_dup (pc := 20) hx hb dX5_undo_20 rfl ?_
    refine x_get (pc := 21) X V okX5 ht1 8 (by decide) q1529 (v := .int (I2 x0 8)) rfl dX5_undo_21 ?_
    refine lv_iconst (pc := 24) (v := (ii 1)) hx hb dX5_undo_24 (by decide) ?_
    refine lv_isub (pc := 25) hx hb dX5_undo_25 ?_
    replace hf := nm_s hf; obtain ⟨I4, hI4, hf⟩ := hf
    refine x_puti (pc := 26) X V okX5 (by decide) ht1 8 (by decide) q1529 (Or.inl rfl) hI4 (fun _ _ _ => rfl) rfl rfl dX5_undo_26 (fun H locs V => ?_)
    refine lv_aload_n (pc := 29) hx hb dX5_undo_29 rfl (lv_at hl 0 rfl) ?_
    refine lv_aload_n (pc := 30) hx hb dX5_undo_30 rfl (lv_at hl 0 rfl) ?_
    refine x_get (pc := 31) X V okX5 ht1 8 (by decide) q1529 (v := .int (I4 x0 8)) rfl dX5_undo_31 ?_
    replace hf := bs hf; obtain ⟨I5, hk_6, hf⟩ := hf
    refine x_callV0 (pc := 34) (As := [.int (I4 x0 8)]) (rest := []) X V (mX5_putBack l D dA s0 hk_6) okX5 ht1 q1705 q1707 qs46 q129 q1708 ⟨rfl, hsX5_putBack⟩ ⟨Nat.le_of_ble_eq_true rfl, Nat.le_of_ble_eq_true rfl⟩ rfl hl.1 rfl (Nat.le_of_ble_eq_true rfl) dX5_undo_34 ⟨Nat.zero_le _, Nat.zero_le _⟩ (fun H locs V => W.eq (g2 := F0 m 37 ls []) rfl ?_)
    refine lv_aload_n (pc := 37) hx hb dX5_undo_37 rfl (lv_at hl 0 rfl) ?_
    refine lv_aload_n (pc := 38) hx hb dX5_undo_38 rfl (lv_at hl 0 rfl) ?_
    replace hf := bs hf; obtain ⟨a7, ha7, hf⟩ := hf
    refine x_get (pc := 39) X V okX5 ht1 7 (by decide) q1528 (v := va_rf (R x0 7)) rfl dX5_undo_39 ?_
    refine x_topr ha7 ?_
    refine lv_aload_n (pc := 42) hx hb dX5_undo_42 rfl (lv_at hl 0 rfl) ?_
    refine x_get (pc := 43) X V okX5 ht1 8 (by decide) q1529 (v := .int (I5 x0 8)) rfl dX5_undo_43 ?_
    replace hf := rA_s hf; obtain ⟨j8, hjj8, htj8, hij8, hf⟩ := hf
    refine x_iald (pc := 46) X V htj8 hij8 hjj8 dX5_undo_46 ?_
    replace hf := b2s hf; obtain ⟨r9, I10, hk_11, hf⟩ := hf
    refine x_callV0 (pc := 47) (As := [.int (I5 a7 j8)]) (rest := []) X V (mX5_tell l D dA s0 hk_11) okX5 ht1 q1701 q1703 qs45 q129 q1704 ⟨rfl, hsX5_tell⟩ ⟨Nat.le_of_ble_eq_true rfl, Nat.le_of_ble_eq_true rfl⟩ rfl hl.1 rfl (Nat.le_of_ble_eq_true rfl) dX5_undo_47 ⟨Nat.zero_le _, Nat.zero_le _⟩ (fun H locs V => W.eq (g2 := F0 m 50 ls [.int r9]) rfl ?_)
    cases hf
    exact x_iret (pc := 50) X V hr dX5_undo_50
  · replace hf := if_t hf c3
    refine lv_aload_n (pc := 12) hx hb dX5_undo_12 rfl (lv_at hl 0 rfl) ?_
    refine lv_bipush (pc := 13) (v := (-3 : Int32)) hx hb dX5_undo_13 (by decide) ?_
    replace hf := b2s hf; obtain ⟨r12, I13, hk_14, hf⟩ := hf
    refine x_callV0 (pc := 15) (As := [.int (-3 : Int32)]) (rest := []) X V (mX5_tell l D dA s0 hk_14) okX5 ht1 q1701 q1703 qs45 q129 q1704 ⟨rfl, hsX5_tell⟩ ⟨Nat.le_of_ble_eq_true rfl, Nat.le_of_ble_eq_true rfl⟩ rfl hl.1 rfl (Nat.le_of_ble_eq_true rfl) dX5_undo_15 ⟨Nat.zero_le _, Nat.zero_le _⟩ (fun H locs V => W.eq (g2 := F0 m 18 ls [.int r12]) rfl ?_)
    cases hf
    exact x_iret (pc := 18) X V hr dX5_undo_18
theorem mX5_undo {nf : Nat} (l : Launch) (D : va_G) (dA : Nat → ClassId) (s0 : Nat) {T : xT} {N : xT} {Z : Nat} {I : xI} {L : xL} {R : xR} {x0 : Nat} {ro : Int32} {Io : xI} (hf : fX5_undo nf T N I R x0 = some (ro, Io)) : XMet l D dA s0 yX5_undo (ws_ yX5_undo cX5_undo 1 ((some .int))) (1) (22) [.ref x0] T N Z I L R (some (.int ro)) T N Z Io L R 0 0 :=
  x_start (own := RX5) rfl (by decide) (Nat.le_of_ble_eq_true rfl) (lv := [(0, .ref x0)]) rfl (fun p e s m below meth c ls X hr hini V hl => wX5_undo_e X hr hf V hl)
set_option maxHeartbeats 400000 in
set_option maxRecDepth 100000 in
theorem wX5_in_e {p : Program} {l : Launch} {e : Env} {s : State} {m : MethodId} {args : Array Value} {below : List Frame} {meth : Method} {c : Code} {D : va_G} {dA : Nat → ClassId} {s0 : Nat} {T : xT} {N : xT} {Z : Nat} {I : xI} {L : xL} {R : xR} {H : Heap} {locs : List Loc} {ls : Array Slot} {x0 : Int64} {x2 : Int64} {x4 : Int64} {ro : Int32} (X : Cx D dA s0 p m c cX5_in 6 s args RX5 meth) (hr : meth.sig.returnType = (some .boolean)) (hf : fX5_in x0 x2 x4 = some ro) (V : Iv D dA s0 s T N Z I L R H locs) (hl : lv_has ls 6 [(0, .long x0), (2, .long x2), (4, .long x4)]) : W p l e { frames := 0, cells := 0, slots := 0, locals := 0 } s m args below meth c H locs 0 0 (MQ below (xQ D dA s0 (some (.int ro)) T N Z I L R) args s 0 0 (fun q => s0 ≤ q)) (F0 m 0 ls []) := by
  have hx := X.1.1
  have hb := X.1.2.1
  unfold fX5_in at hf
  refine lv_lload_n (pc := 0) hx hb dX5_in_0 rfl (lv_at hl 0 rfl) ?_
  refine lv_lload_n (pc := 1) hx hb dX5_in_1 rfl (lv_at hl 1 rfl) ?_
  refine lc_lt (pc := 2) (tgt := 17) hx hb dX5_in_2 dX5_in_3 (by decide) (fun c1 => ?_) (fun c1 => ?_)
  · replace hf := if_t hf c1
    refine lv_iconst (pc := 17) (v := (ii 0)) hx hb dX5_in_17 (by decide) ?_
    cases hf
    exact x_zret (pc := 18) X V hr (by decide) dX5_in_18
  · replace hf := if_f hf c1
    refine lv_lload_n (pc := 6) hx hb dX5_in_6 rfl (lv_at hl 0 rfl) ?_
    refine lv_lload (pc := 7) hx hb dX5_in_7 (lv_at hl 2 rfl) ?_
    refine lc_gt (pc := 9) (tgt := 17) hx hb dX5_in_9 dX5_in_10 (by decide) (fun c2 => ?_) (fun c2 => ?_)
    · replace hf := if_t hf c2
      refine lv_iconst (pc := 17) (v := (ii 0)) hx hb dX5_in_17 (by decide) ?_
      cases hf
      exact x_zret (pc := 18) X V hr (by decide) dX5_in_18
    · replace hf := if_f hf c2
      refine lv_iconst (pc := 13) (v := (ii 1)) hx hb dX5_in_13 (by decide) ?_
      refine lv_goto (pc := 14) (tgt := 18) hx hb dX5_in_14 (by decide) ?_
      cases hf
      exact x_zret (pc := 18) X V hr (by decide) dX5_in_18
theorem mX5_in (l : Launch) (D : va_G) (dA : Nat → ClassId) (s0 : Nat) {T : xT} {N : xT} {Z : Nat} {I : xI} {L : xL} {R : xR} {x0 : Int64} {x2 : Int64} {x4 : Int64} {ro : Int32} (hf : fX5_in x0 x2 x4 = some ro) : XMet l D dA s0 yX5_in (ws_ yX5_in cX5_in 6 ((some .boolean))) (0) (0) [.long x0, .long x2, .long x4] T N Z I L R (some (.int ro)) T N Z I L R 0 0 :=
  x_start (own := RX5) rfl (by decide) (Nat.le_of_ble_eq_true rfl) (lv := [(0, .long x0), (2, .long x2), (4, .long x4)]) rfl (fun p e s m below meth c ls X hr hini V hl => wX5_in_e X hr hf V hl)
