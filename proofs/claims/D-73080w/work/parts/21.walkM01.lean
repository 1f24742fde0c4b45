set_option maxHeartbeats 400000 in
set_option maxRecDepth 100000 in
theorem wX5_image_b23 {nf : Nat} {p : Program} {l : Launch} {e : Env} {s : State} {m : MethodId} {args : Array Value} {below : List Frame} {meth : Method} {c : Code} {D : va_G} {dA : Nat → ClassId} {s0 : Nat} {T : xT} {N : xT} {Z : Nat} {L : xL} {R : xR}  {ro : Int32} {Io : xI} (X : Cx D dA s0 p m c cX5_image 3 s args RX5 meth) (hr : meth.sig.returnType = (some .int))   (k : Nat) : ∀ {I : xI} {x0 : Nat} {x1 : Int32} {x2 : Int32} {H : Heap} {locs : List Loc} {ls : Array Slot} , fX5_image_b23 nf T N R k I x0 x1 x2 = some (ro, Io) → Iv D dA s0 s T N Z I L R H locs → lv_has ls 3 [(0, .ref x0), (1, .int x1), (2, .int x2)] → W p l e { frames := 1, cells := 0, slots := 0, locals := 25 } s m args below meth c H locs 0 0 (MQ below (xQ D dA s0 (some (.int ro)) T N Z Io L R) args s 0 0 (fun q => s0 ≤ q)) (F0 m 23 ls []) := by
  have hx := X.1.1
  have hb := X.1.2.1
  induction k with
  | zero =>
    intro I x0 x1 x2 H locs ls hf V hl
    exact absurd (show none = some _ from hf) (fun q => nomatch q)
  | succ k ih =>
    intro I x0 x1 x2 H locs ls hf V hl
    rw [fX5_image_b23] at hf
    refine lv_iload_n (pc := 23) hx hb dX5_image_23 rfl (lv_at hl 2 rfl) ?_
    refine lv_sipush (pc := 24) (v := (ii 5476)) hx hb dX5_image_24 (by decide) ?_
    refine lv_icmp_ge (pc := 27) (tgt := 54) hx hb dX5_image_27 (by decide) (fun c1 => ?_) (fun c1 => ?_)
    · replace hf := if_t hf c1
      refine lv_aload_n (pc := 54) hx hb dX5_image_54 rfl (lv_at hl 0 rfl) ?_
      replace hf := tg_s hf; obtain ⟨ht2, hf⟩ := hf
      replace hf := bs hf; obtain ⟨a3, ha3, hf⟩ := hf
      refine x_get (pc := 55) X V okX5 ht2 5 (by decide) q1526 (v := va_rf (R x0 5)) rfl dX5_image_55 ?_
      refine x_topr ha3 ?_
      refine lv_iload_n (pc := 58) hx hb dX5_image_58 rfl (lv_at hl 1 rfl) ?_
      refine lv_iconst (pc := 59) (v := (ii 1)) hx hb dX5_image_59 (by decide) ?_
      replace hf := rA_s hf; obtain ⟨j4, hjj4, htj4, hij4, hf⟩ := hf
      replace hf := nm_s hf; obtain ⟨I5, hI5, hf⟩ := hf
      refine x_zast (pc := 60) X V htj4 hij4 hjj4 (by decide) hI5 dX5_image_60 (fun H locs V => ?_)
      refine lv_aload_n (pc := 61) hx hb dX5_image_61 rfl (lv_at hl 0 rfl) ?_
      refine lv_iconst (pc := 62) (v := (ii 0)) hx hb dX5_image_62 (by decide) ?_
      replace hf := b2s hf; obtain ⟨r6, I7, hk_8, hf⟩ := hf
      refine x_callV0 (pc := 63) (As := [.int (ii 0)]) (rest := []) X V (mX5_tell l D dA s0 hk_8) okX5 ht2 q1701 q1703 qs45 q129 q1704 ⟨rfl, hsX5_tell⟩ ⟨Nat.le_of_ble_eq_true rfl, Nat.le_of_ble_eq_true rfl⟩ rfl hl.1 rfl (Nat.le_of_ble_eq_true rfl) dX5_image_63 ⟨Nat.zero_le _, Nat.zero_le _⟩ (fun H locs V => W.eq (g2 := F0 m 66 ls [.int r6]) rfl ?_)
      cases hf
      exact x_iret (pc := 66) X V hr dX5_image_66
    · replace hf := if_f hf c1
      refine lv_aload_n (pc := 30) hx hb dX5_image_30 rfl (lv_at hl 0 rfl) ?_
      replace hf := tg_s hf; obtain ⟨ht9, hf⟩ := hf
      replace hf := bs hf; obtain ⟨a10, ha10, hf⟩ := hf
      refine x_get (pc := 31) X V okX5 ht9 4 (by decide) q1525 (v := va_rf (R x0 4)) rfl dX5_image_31 ?_
      refine x_topr ha10 ?_
      refine lv_sipush (pc := 34) (v := (ii 5476)) hx hb dX5_image_34 (by decide) ?_
      refine lv_iload_n (pc := 37) hx hb dX5_image_37 rfl (lv_at hl 1 rfl) ?_
      refine lv_imul (pc := 38) hx hb dX5_image_38 ?_
      refine lv_iload_n (pc := 39) hx hb dX5_image_39 rfl (lv_at hl 2 rfl) ?_
      refine lv_iadd (pc := 40) hx hb dX5_image_40 ?_
      refine lv_aload_n (pc := 41) hx hb dX5_image_41 rfl (lv_at hl 0 rfl) ?_
      replace hf := bs hf; obtain ⟨a11, ha11, hf⟩ := hf
      refine x_get (pc := 42) X V okX5 ht9 3 (by decide) q1524 (v := va_rf (R x0 3)) rfl dX5_image_42 ?_
      refine x_topr ha11 ?_
      refine lv_iload_n (pc := 45) hx hb dX5_image_45 rfl (lv_at hl 2 rfl) ?_
      replace hf := rA_s hf; obtain ⟨j12, hjj12, htj12, hij12, hf⟩ := hf
      refine x_iald (pc := 46) X V htj12 hij12 hjj12 dX5_image_46 ?_
      replace hf := rA_s hf; obtain ⟨j13, hjj13, htj13, hij13, hf⟩ := hf
      replace hf := nm_s hf; obtain ⟨I14, hI14, hf⟩ := hf
      refine x_iast (pc := 47) X V htj13 hij13 hjj13 hI14 dX5_image_47 (fun H locs V => ?_)
      replace hf := nm_s hf; obtain ⟨u15, hu15, hf⟩ := hf
      refine lv_iinc (pc := 48) (v := u15) (lv' := [(2, .int u15), (0, .ref x0), (1, .int x1)]) hx hb dX5_image_48 hl (k := 2) rfl (by rw [hu15]; rfl) (by decide) rfl (fun ls hl => ?_)
      refine lv_goto (pc := 51) (tgt := 23) hx hb dX5_image_51 (by decide) ?_
      exact ih hf V (lv_sub hl [1, 2, 0] rfl)
set_option maxHeartbeats 400000 in
set_option maxRecDepth 100000 in
theorem wX5_image_e {nf : Nat} {p : Program} {l : Launch} {e : Env} {s : State} {m : MethodId} {args : Array Value} {below : List Frame} {meth : Method} {c : Code} {D : va_G} {dA : Nat → ClassId} {s0 : Nat} {T : xT} {N : xT} {Z : Nat} {I : xI} {L : xL} {R : xR} {H : Heap} {locs : List Loc} {ls : Array Slot} {x0 : Nat} {x1 : Int32} {ro : Int32} {Io : xI} (X : Cx D dA s0 p m c cX5_image 3 s args RX5 meth) (hr : meth.sig.returnType = (some .int)) (hf : fX5_image nf T N I R x0 x1 = some (ro, Io)) (V : Iv D dA s0 s T N Z I L R H locs) (hl : lv_has ls 3 [(0, .ref x0), (1, .int x1)]) : W p l e { frames := 1, cells := 0, slots := 0, locals := 25 } s m args below meth c H locs 0 0 (MQ below (xQ D dA s0 (some (.int ro)) T N Z Io L R) args s 0 0 (fun q => s0 ≤ q)) (F0 m 0 ls []) := by
  have hx := X.1.1
  have hb := X.1.2.1
  unfold fX5_image at hf
  refine lv_aload_n (pc := 0) hx hb dX5_image_0 rfl (lv_at hl 0 rfl) ?_
  refine lv_iconst (pc := 1) (v := (ii 0)) hx hb dX5_image_1 (by decide) ?_
  replace hf := tg_s hf; obtain ⟨ht1, hf⟩ := hf
  replace hf := nm_s hf; obtain ⟨I2, hI2, hf⟩ := hf
  refine x_puti (pc := 2) X V okX5 (by decide) ht1 0 (by decide) q1521 (Or.inl rfl) hI2 (fun _ _ _ => rfl) rfl rfl dX5_image_2 (fun H locs V => ?_)
  refine lv_iload_n (pc := 5) hx hb dX5_image_5 rfl (lv_at hl 1 rfl) ?_
  refine lv_i2l (pc := 6) hx hb dX5_image_6 rfl ?_
  refine lv_lconst (pc := 7) (v := (jj 0)) hx hb dX5_image_7 (by decide) ?_
  refine lv_lconst (pc := 8) (v := (jj 1)) hx hb dX5_image_8 (by decide) ?_
  replace hf := bs hf; obtain ⟨r3, hk_4, hf⟩ := hf
  refine x_callS0 (pc := 9) (As := [.long ((x1).toInt64), .long (jj 0), .long (jj 1)]) (rest := []) X V (mX5_in l D dA s0 hk_4) q1713 q1714 q129 q1715 hsX5_in ⟨Nat.le_of_ble_eq_true rfl, Nat.le_of_ble_eq_true rfl⟩ rfl hl.1 rfl (Nat.le_of_ble_eq_true rfl) dX5_image_9 ⟨Nat.zero_le _, Nat.zero_le _⟩ (fun H locs V => W.eq (g2 := F0 m 12 ls [.int r3]) rfl ?_)
  refine lv_if_ne (pc := 12) (tgt := 21) hx hb dX5_image_12 (by decide) (fun c5 => ?_) (fun c5 => ?_)
  · replace hf := if_f hf c5
    refine lv_iconst (pc := 21) (v := (ii 0)) hx hb dX5_image_21 (by decide) ?_
    refine lv_istore_n (pc := 22) (lv' := [(2, .int (ii 0)), (0, .ref x0), (1, .int x1)]) hx hb dX5_image_22 rfl hl (by decide) rfl (fun ls hl => ?_)
    exact wX5_image_b23 X hr nf hf V (lv_sub hl [1, 2, 0] rfl)
  · replace hf := if_t hf c5
    refine lv_aload_n (pc := 15) hx hb dX5_image_15 rfl (lv_at hl 0 rfl) ?_
    refine lv_iconst (pc := 16) (v := (-1 : Int32)) hx hb dX5_image_16 (by decide) ?_
    replace hf := b2s hf; obtain ⟨r6, I7, hk_8, hf⟩ := hf
    refine x_callV0 (pc := 17) (As := [.int (-1 : Int32)]) (rest := []) X V (mX5_tell l D dA s0 hk_8) okX5 ht1 q1701 q1703 qs45 q129 q1704 ⟨rfl, hsX5_tell⟩ ⟨Nat.le_of_ble_eq_true rfl, Nat.le_of_ble_eq_true rfl⟩ rfl hl.1 rfl (Nat.le_of_ble_eq_true rfl) dX5_image_17 ⟨Nat.zero_le _, Nat.zero_le _⟩ (fun H locs V => W.eq (g2 := F0 m 20 ls [.int r6]) rfl ?_)
    cases hf
    exact x_iret (pc := 20) X V hr dX5_image_20
theorem mX5_image {nf : Nat} (l : Launch) (D : va_G) (dA : Nat → ClassId) (s0 : Nat) {T : xT} {N : xT} {Z : Nat} {I : xI} {L : xL} {R : xR} {x0 : Nat} {x1 : Int32} {ro : Int32} {Io : xI} (hf : fX5_image nf T N I R x0 x1 = some (ro, Io)) : XMet l D dA s0 yX5_image (ws_ yX5_image cX5_image 3 ((some .int))) (1) (25) [.ref x0, .int x1] T N Z I L R (some (.int ro)) T N Z Io L R 0 0 :=
  x_start (own := RX5) rfl (by decide) (Nat.le_of_ble_eq_true rfl) (lv := [(0, .ref x0), (1, .int x1)]) rfl (fun p e s m below meth c ls X hr hini V hl => wX5_image_e X hr hf V hl)
set_option maxHeartbeats 400000 in
set_option maxRecDepth 100000 in
theorem wX5_lasting_b13 {p : Program} {l : Launch} {e : Env} {s : State} {m : MethodId} {args : Array Value} {below : List Frame} {meth : Method} {c : Code} {D : va_G} {dA : Nat → ClassId} {s0 : Nat} {T : xT} {N : xT} {Z : Nat} {I : xI} {L : xL} {R : xR} {H : Heap} {locs : List Loc} {ls : Array Slot}  {x0 : Nat} {x1 : Int32} {z0 : Nat} {z1 : Int32} {ro : Int32} {Io : xI} (X : Cx D dA s0 p m c cX5_lasting 2 s args RX5 meth) (hr : meth.sig.returnType = (some .int))   (hf : fX5_lasting_b13 T N I R x0 x1 z0 z1 = some (ro, Io)) (V : Iv D dA s0 s T N Z I L R H locs) (hl : lv_has ls 2 [(0, .ref x0), (1, .int x1)]) : W p l e { frames := 1, cells := 0, slots := 0, locals := 21 } s m args below meth c H locs 0 0 (MQ below (xQ D dA s0 (some (.int ro)) T N Z Io L R) args s 0 0 (fun q => s0 ≤ q)) (F0 m 13 ls [.int z1, .ref z0]) := by
  have hx := X.1.1
  have hb := X.1.2.1
  unfold fX5_lasting_b13 at hf
  replace hf := tg_s hf; obtain ⟨ht1, hf⟩ := hf
  replace hf := nm_s hf; obtain ⟨I2, hI2, hf⟩ := hf
  refine x_puti (pc := 13) X V okX5 (by decide) ht1 8 (by decide) q1529 (Or.inl rfl) hI2 (fun _ _ _ => rfl) rfl rfl dX5_lasting_13 (fun H locs V => ?_)
  refine lv_aload_n (pc := 16) hx hb dX5_lasting_16 rfl (lv_at hl 0 rfl) ?_
  refine lv_iload_n (pc := 17) hx hb dX5_lasting_17 rfl (lv_at hl 1 rfl) ?_
  replace hf := tg_s hf; obtain ⟨ht6, hf⟩ := hf
  replace hf := b2s hf; obtain ⟨r3, I4, hk_5, hf⟩ := hf
  refine x_callV0 (pc := 18) (As := [.int x1]) (rest := []) X V (mX5_tell l D dA s0 hk_5) okX5 ht6 q1701 q1703 qs45 q129 q1704 ⟨rfl, hsX5_tell⟩ ⟨Nat.le_of_ble_eq_true rfl, Nat.le_of_ble_eq_true rfl⟩ rfl hl.1 rfl (Nat.le_of_ble_eq_true rfl) dX5_lasting_18 ⟨Nat.zero_le _, Nat.zero_le _⟩ (fun H locs V => W.eq (g2 := F0 m 21 ls [.int r3]) rfl ?_)
  cases hf
  exact x_iret (pc := 21) X V hr dX5_lasting_21
set_option maxHeartbeats 400000 in
set_option maxRecDepth 100000 in
theorem wX5_lasting_e {p : Program} {l : Launch} {e : Env} {s : State} {m : MethodId} {args : Array Value} {below : List Frame} {meth : Method} {c : Code} {D : va_G} {dA : Nat → ClassId} {s0 : Nat} {T : xT} {N : xT} {Z : Nat} {I : xI} {L : xL} {R : xR} {H : Heap} {locs : List Loc} {ls : Array Slot} {x0 : Nat} {x1 : Int32} {ro : Int32} {Io : xI} (X : Cx D dA s0 p m c cX5_lasting 2 s args RX5 meth) (hr : meth.sig.returnType = (some .int)) (hf : fX5_lasting T N I R x0 x1 = some (ro, Io)) (V : Iv D dA s0 s T N Z I L R H locs) (hl : lv_has ls 2 [(0, .ref x0), (1, .int x1)]) : W p l e { frames := 1, cells := 0, slots := 0, locals := 21 } s m args below meth c H locs 0 0 (MQ below (xQ D dA s0 (some (.int ro)) T N Z Io L R) args s 0 0 (fun q => s0 ≤ q)) (F0 m 0 ls []) := by
  have hx := X.1.1
  have hb := X.1.2.1
  unfold fX5_lasting at hf
  refine lv_aload_n (pc := 0) hx hb dX5_lasting_0 rfl (lv_at hl 0 rfl) ?_
  refine lv_iload_n (pc := 1) hx hb dX5_lasting_1 rfl (lv_at hl 1 rfl) ?_
  refine lv_if_ge (pc := 2) (tgt := 12) hx hb dX5_lasting_2 (by decide) (fun c1 => ?_) (fun c1 => ?_)
  · replace hf := if_t hf c1
    refine lv_iconst (pc := 12) (v := (ii 0)) hx hb dX5_lasting_12 (by decide) ?_
    exact wX5_lasting_b13 X hr hf V (lv_sub hl [0, 1] rfl)
  · replace hf := if_f hf c1
    refine lv_aload_n (pc := 5) hx hb dX5_lasting_5 rfl (lv_at hl 0 rfl) ?_
    replace hf := tg_s hf; obtain ⟨ht2, hf⟩ := hf
    refine x_get (pc := 6) X V okX5 ht2 8 (by decide) q1529 (v := .int (I x0 8)) rfl dX5_lasting_6 ?_
    refine lv_goto (pc := 9) (tgt := 13) hx hb dX5_lasting_9 (by decide) ?_
    exact wX5_lasting_b13 X hr hf V (lv_sub hl [0, 1] rfl)
theorem mX5_lasting (l : Launch) (D : va_G) (dA : Nat → ClassId) (s0 : Nat) {T : xT} {N : xT} {Z : Nat} {I : xI} {L : xL} {R : xR} {x0 : Nat} {x1 : Int32} {ro : Int32} {Io : xI} (hf : fX5_lasting T N I R x0 x1 = some (ro, Io)) : XMet l D dA s0 yX5_lasting (ws_ yX5_lasting cX5_lasting 2 ((some .int))) (1) (21) [.ref x0, .int x1] T N Z I L R (some (.int ro)) T N Z Io L R 0 0 :=
  x_start (own := RX5) rfl (by decide) (Nat.le_of_ble_eq_true rfl) (lv := [(0, .ref x0), (1, .int x1)]) rfl (fun p e s m below meth c ls X hr hini V hl => wX5_lasting_e X hr hf V hl)
set_option maxHeartbeats 400000 in
set_option maxRecDepth 100000 in
theorem wX5_back_b39 {nf : Nat} {p : Program} {l : Launch} {e : Env} {s : State} {m : MethodId} {args : Array Value} {below : List Frame} {meth : Method} {c : Code} {D : va_G} {dA : Nat → ClassId} {s0 : Nat} {T : xT} {N : xT} {Z : Nat} {L : xL} {R : xR}  {ro : Int32} {Io : xI} (X : Cx D dA s0 p m c cX5_back 3 s args RX5 meth) (hr : meth.sig.returnType = (some .int))   (k : Nat) : ∀ {I : xI} {x0 : Nat} {x1 : Int32} {x2 : Int32} {H : Heap} {locs : List Loc} {ls : Array Slot} , fX5_back_b39 nf T N R k I x0 x1 x2 = some (ro, Io) → Iv D dA s0 s T N Z I L R H locs → lv_has ls 3 [(0, .ref x0), (1, .int x1), (2, .int x2)] → W p l e { frames := 2, cells := 0, slots := 0, locals := 42 } s m args below meth c H locs 0 0 (MQ below (xQ D dA s0 (some (.int ro)) T N Z Io L R) args s 0 0 (fun q => s0 ≤ q)) (F0 m 39 ls []) := by
  have hx := X.1.1
  have hb := X.1.2.1
  induction k with
  | zero =>
    intro I x0 x1 x2 H locs ls hf V hl
    exact absurd (show none = some _ from hf) (fun q => nomatch q)
  | succ k ih =>
    intro I x0 x1 x2 H locs ls hf V hl
    rw [fX5_back_b39] at hf
    refine lv_iload_n (pc := 39) hx hb dX5_back_39 rfl (lv_at hl 2 rfl) ?_
    refine lv_sipush (pc := 40) (v := (ii 5476)) hx hb dX5_back_40 (by decide) ?_
    refine lv_icmp_ge (pc := 43) (tgt := 70) hx hb dX5_back_43 (by decide) (fun c1 => ?_) (fun c1 => ?_)
    · replace hf := if_t hf c1
      refine lv_aload_n (pc := 70) hx hb dX5_back_70 rfl (lv_at hl 0 rfl) ?_
      refine lv_iconst (pc := 71) (v := (ii 0)) hx hb dX5_back_71 (by decide) ?_
      replace hf := tg_s hf; obtain ⟨ht5, hf⟩ := hf
      replace hf := b2s hf; obtain ⟨r2, I3, hk_4, hf⟩ := hf
      refine x_callV0 (pc := 72) (As := [.int (ii 0)]) (rest := []) X V (mX5_lasting l D dA s0 hk_4) okX5 ht5 q1720 q1722 qs47 q129 q1723 ⟨rfl, hsX5_lasting⟩ ⟨Nat.le_of_ble_eq_true rfl, Nat.le_of_ble_eq_true rfl⟩ rfl hl.1 rfl (Nat.le_of_ble_eq_true rfl) dX5_back_72 ⟨Nat.zero_le _, Nat.zero_le _⟩ (fun H locs V => W.eq (g2 := F0 m 75 ls [.int r2]) rfl ?_)
      cases hf
      exact x_iret (pc := 75) X V hr dX5_back_75
    · replace hf := if_f hf c1
      refine lv_aload_n (pc := 46) hx hb dX5_back_46 rfl (lv_at hl 0 rfl) ?_
      replace hf := tg_s hf; obtain ⟨ht6, hf⟩ := hf
      replace hf := bs hf; obtain ⟨a7, ha7, hf⟩ := hf
      refine x_get (pc := 47) X V okX5 ht6 3 (by decide) q1524 (v := va_rf (R x0 3)) rfl dX5_back_47 ?_
      refine x_topr ha7 ?_
      refine lv_iload_n (pc := 50) hx hb dX5_back_50 rfl (lv_at hl 2 rfl) ?_
      refine lv_aload_n (pc := 51) hx hb dX5_back_51 rfl (lv_at hl 0 rfl) ?_
      replace hf := bs hf; obtain ⟨a8, ha8, hf⟩ := hf
      refine x_get (pc := 52) X V okX5 ht6 4 (by decide) q1525 (v := va_rf (R x0 4)) rfl dX5_back_52 ?_
      refine x_topr ha8 ?_
      refine lv_sipush (pc := 55) (v := (ii 5476)) hx hb dX5_back_55 (by decide) ?_
      refine lv_iload_n (pc := 58) hx hb dX5_back_58 rfl (lv_at hl 1 rfl) ?_
      refine lv_imul (pc := 59) hx hb dX5_back_59 ?_
      refine lv_iload_n (pc := 60) hx hb dX5_back_60 rfl (lv_at hl 2 rfl) ?_
      refine lv_iadd (pc := 61) hx hb dX5_back_61 ?_
      replace hf := rA_s hf; obtain ⟨j9, hjj9, htj9, hij9, hf⟩ := hf
      refine x_iald (pc := 62) X V htj9 hij9 hjj9 dX5_back_62 ?_
      replace hf := rA_s hf; obtain ⟨j10, hjj10, htj10, hij10, hf⟩ := hf
      replace hf := nm_s hf; obtain ⟨I11, hI11, hf⟩ := hf
      refine x_iast (pc := 63) X V htj10 hij10 hjj10 hI11 dX5_back_63 (fun H locs V => ?_)
      replace hf := nm_s hf; obtain ⟨u12, hu12, hf⟩ := hf
      refine lv_iinc (pc := 64) (v := u12) (lv' := [(2, .int u12), (0, .ref x0), (1, .int x1)]) hx hb dX5_back_64 hl (k := 2) rfl (by rw [hu12]; rfl) (by decide) rfl (fun ls hl => ?_)
      refine lv_goto (pc := 67) (tgt := 39) hx hb dX5_back_67 (by decide) ?_
      exact ih hf V (lv_sub hl [1, 2, 0] rfl)
set_option maxHeartbeats 400000 in
set_option maxRecDepth 100000 in
theorem wX5_back_e {nf : Nat} {p : Program} {l : Launch} {e : Env} {s : State} {m : MethodId} {args : Array Value} {below : List Frame} {meth : Method} {c : Code} {D : va_G} {dA : Nat → ClassId} {s0 : Nat} {T : xT} {N : xT} {Z : Nat} {I : xI} {L : xL} {R : xR} {H : Heap} {locs : List Loc} {ls : Array Slot} {x0 : Nat} {x1 : Int32} {ro : Int32} {Io : xI} (X : Cx D dA s0 p m c cX5_back 3 s args RX5 meth) (hr : meth.sig.returnType = (some .int)) (hf : fX5_back nf T N I R x0 x1 = some (ro, Io)) (V : Iv D dA s0 s T N Z I L R H locs) (hl : lv_has ls 3 [(0, .ref x0), (1, .int x1)]) : W p l e { frames := 2, cells := 0, slots := 0, locals := 42 } s m args below meth c H locs 0 0 (MQ below (xQ D dA s0 (some (.int ro)) T N Z Io L R) args s 0 0 (fun q => s0 ≤ q)) (F0 m 0 ls []) := by
  have hx := X.1.1
  have hb := X.1.2.1
  unfold fX5_back at hf
  refine lv_aload_n (pc := 0) hx hb dX5_back_0 rfl (lv_at hl 0 rfl) ?_
  refine lv_iconst (pc := 1) (v := (ii 0)) hx hb dX5_back_1 (by decide) ?_
  replace hf := tg_s hf; obtain ⟨ht1, hf⟩ := hf
  replace hf := nm_s hf; obtain ⟨I2, hI2, hf⟩ := hf
  refine x_puti (pc := 2) X V okX5 (by decide) ht1 0 (by decide) q1521 (Or.inl rfl) hI2 (fun _ _ _ => rfl) rfl rfl dX5_back_2 (fun H locs V => ?_)
  refine lv_iload_n (pc := 5) hx hb dX5_back_5 rfl (lv_at hl 1 rfl) ?_
  refine lv_i2l (pc := 6) hx hb dX5_back_6 rfl ?_
  refine lv_lconst (pc := 7) (v := (jj 0)) hx hb dX5_back_7 (by decide) ?_
  refine lv_lconst (pc := 8) (v := (jj 1)) hx hb dX5_back_8 (by decide) ?_
  replace hf := bs hf; obtain ⟨r3, hk_4, hf⟩ := hf
  refine x_callS0 (pc := 9) (As := [.long ((x1).toInt64), .long (jj 0), .long (jj 1)]) (rest := []) X V (mX5_in l D dA s0 hk_4) q1713 q1714 q129 q1715 hsX5_in ⟨Nat.le_of_ble_eq_true rfl, Nat.le_of_ble_eq_true rfl⟩ rfl hl.1 rfl (Nat.le_of_ble_eq_true rfl) dX5_back_9 ⟨Nat.zero_le _, Nat.zero_le _⟩ (fun H locs V => W.eq (g2 := F0 m 12 ls [.int r3]) rfl ?_)
  refine lv_if_ne (pc := 12) (tgt := 21) hx hb dX5_back_12 (by decide) (fun c5 => ?_) (fun c5 => ?_)
  · replace hf := if_f hf c5
    refine lv_aload_n (pc := 21) hx hb dX5_back_21 rfl (lv_at hl 0 rfl) ?_
    replace hf := bs hf; obtain ⟨a6, ha6, hf⟩ := hf
    refine x_get (pc := 22) X V okX5 ht1 5 (by decide) q1526 (v := va_rf (R x0 5)) rfl dX5_back_22 ?_
    refine x_topr ha6 ?_
    refine lv_iload_n (pc := 25) hx hb dX5_back_25 rfl (lv_at hl 1 rfl) ?_
    replace hf := rA_s hf; obtain ⟨j7, hjj7, htj7, hij7, hf⟩ := hf
    refine x_zald (pc := 26) X V htj7 hij7 hjj7 dX5_back_26 ?_
    refine lv_if_ne (pc := 27) (tgt := 37) hx hb dX5_back_27 (by decide) (fun c8 => ?_) (fun c8 => ?_)
    · replace hf := if_f hf c8
      refine lv_iconst (pc := 37) (v := (ii 0)) hx hb dX5_back_37 (by decide) ?_
      refine lv_istore_n (pc := 38) (lv' := [(2, .int (ii 0)), (0, .ref x0), (1, .int x1)]) hx hb dX5_back_38 rfl hl (by decide) rfl (fun ls hl => ?_)
      exact wX5_back_b39 X hr nf hf V (lv_sub hl [1, 2, 0] rfl)
    · replace hf := if_t hf c8
      refine lv_aload_n (pc := 30) hx hb dX5_back_30 rfl (lv_at hl 0 rfl) ?_
      refine lv_bipush (pc := 31) (v := (-2 : Int32)) hx hb dX5_back_31 (by decide) ?_
      replace hf := b2s hf; obtain ⟨r9, I10, hk_11, hf⟩ := hf
      refine x_callV0 (pc := 33) (As := [.int (-2 : Int32)]) (rest := []) X V (mX5_tell l D dA s0 hk_11) okX5 ht1 q1701 q1703 qs45 q129 q1704 ⟨rfl, hsX5_tell⟩ ⟨Nat.le_of_ble_eq_true rfl, Nat.le_of_ble_eq_true rfl⟩ rfl hl.1 rfl (Nat.le_of_ble_eq_true rfl) dX5_back_33 ⟨Nat.zero_le _, Nat.zero_le _⟩ (fun H locs V => W.eq (g2 := F0 m 36 ls [.int r9]) rfl ?_)
      cases hf
      exact x_iret (pc := 36) X V hr dX5_back_36
  · replace hf := if_t hf c5
    refine lv_aload_n (pc := 15) hx hb dX5_back_15 rfl (lv_at hl 0 rfl) ?_
    refine lv_iconst (pc := 16) (v := (-1 : Int32)) hx hb dX5_back_16 (by decide) ?_
    replace hf := b2s hf; obtain ⟨r12, I13, hk_14, hf⟩ := hf
    refine x_callV0 (pc := 17) (As := [.int (-1 : Int32)]) (rest := []) X V (mX5_tell l D dA s0 hk_14) okX5 ht1 q1701 q1703 qs45 q129 q1704 ⟨rfl, hsX5_tell⟩ ⟨Nat.le_of_ble_eq_true rfl, Nat.le_of_ble_eq_true rfl⟩ rfl hl.1 rfl (Nat.le_of_ble_eq_true rfl) dX5_back_17 ⟨Nat.zero_le _, Nat.zero_le _⟩ (fun H locs V => W.eq (g2 := F0 m 20 ls [.int r12]) rfl ?_)
    cases hf
    exact x_iret (pc := 20) X V hr dX5_back_20
theorem mX5_back {nf : Nat} (l : Launch) (D : va_G) (dA : Nat → ClassId) (s0 : Nat) {T : xT} {N : xT} {Z : Nat} {I : xI} {L : xL} {R : xR} {x0 : Nat} {x1 : Int32} {ro : Int32} {Io : xI} (hf : fX5_back nf T N I R x0 x1 = some (ro, Io)) : XMet l D dA s0 yX5_back (ws_ yX5_back cX5_back 3 ((some .int))) (2) (42) [.ref x0, .int x1] T N Z I L R (some (.int ro)) T N Z Io L R 0 0 :=
  x_start (own := RX5) rfl (by decide) (Nat.le_of_ble_eq_true rfl) (lv := [(0, .ref x0), (1, .int x1)]) rfl (fun p e s m below meth c ls X hr hini V hl => wX5_back_e X hr hf V hl)
set_option maxHeartbeats 400000 in
set_option maxRecDepth 100000 in
theorem wX5_isCorner_e {p : Program} {l : Launch} {e : Env} {s : State} {m : MethodId} {args : Array Value} {below : List Frame} {meth : Method} {c : Code} {D : va_G} {dA : Nat → ClassId} {s0 : Nat} {T : xT} {N : xT} {Z : Nat} {I : xI} {L : xL} {R : xR} {H : Heap} {locs : List Loc} {ls : Array Slot} {x0 : Int32} {ro : Int32} (X : Cx D dA s0 p m c cX5_isCorner 1 s args RX5 meth) (hr : meth.sig.returnType = (some .boolean)) (hf : fX5_isCorner x0 = some ro) (V : Iv D dA s0 s T N Z I L R H locs) (hl : lv_has ls 1 [(0, .int x0)]) : W p l e { frames := 1, cells := 0, slots := 0, locals := 25 } s m args below meth c H locs 0 0 (MQ below (xQ D dA s0 (some (.int ro)) T N Z I L R) args s 0 0 (fun q => s0 ≤ q)) (F0 m 0 ls []) := by
  have hx := X.1.1
  have hb := X.1.2.1
  unfold fX5_isCorner at hf
  refine lv_iload_n (pc := 0) hx hb dX5_isCorner_0 rfl (lv_at hl 0 rfl) ?_
  refine lv_i2l (pc := 1) hx hb dX5_isCorner_1 rfl ?_
  refine lv_lconst (pc := 2) (v := (jj 0)) hx hb dX5_isCorner_2 (by decide) ?_
  refine lv_ldc2 (pc := 3) (v := (jj 7)) hx hb X.1.2.2.2.1 (X.1.2.2.2.2 _ q1735) dX5_isCorner_3 ?_
  replace hf := bs hf; obtain ⟨r1, hk_2, hf⟩ := hf
  refine x_callS0 (pc := 6) (As := [.long ((x0).toInt64), .long (jj 0), .long (jj 7)]) (rest := []) X V (mX5_in l D dA s0 hk_2) q1713 q1714 q129 q1715 hsX5_in ⟨Nat.le_of_ble_eq_true rfl, Nat.le_of_ble_eq_true rfl⟩ rfl hl.1 rfl (Nat.le_of_ble_eq_true rfl) dX5_isCorner_6 ⟨Nat.zero_le _, Nat.zero_le _⟩ (fun H locs V => W.eq (g2 := F0 m 9 ls [.int r1]) rfl ?_)
  replace hf := chk_s hf; obtain ⟨hz3, hf⟩ := hf
  cases hf
  exact x_zret (pc := 9) X V hr hz3 dX5_isCorner_9
theorem mX5_isCorner (l : Launch) (D : va_G) (dA : Nat → ClassId) (s0 : Nat) {T : xT} {N : xT} {Z : Nat} {I : xI} {L : xL} {R : xR} {x0 : Int32} {ro : Int32} (hf : fX5_isCorner x0 = some ro) : XMet l D dA s0 yX5_isCorner (ws_ yX5_isCorner cX5_isCorner 1 ((some .boolean))) (1) (25) [.int x0] T N Z I L R (some (.int ro)) T N Z I L R 0 0 :=
  x_start (own := RX5) rfl (by decide) (Nat.le_of_ble_eq_true rfl) (lv := [(0, .int x0)]) rfl (fun p e s m below meth c ls X hr hini V hl => wX5_isCorner_e X hr hf V hl)
set_option maxHeartbeats 400000 in
set_option maxRecDepth 100000 in
theorem wX5_come_e {p : Program} {l : Launch} {e : Env} {s : State} {m : MethodId} {args : Array Value} {below : List Frame} {meth : Method} {c : Code} {D : va_G} {dA : Nat → ClassId} {s0 : Nat} {T : xT} {N : xT} {Z : Nat} {I : xI} {L : xL} {R : xR} {H : Heap} {locs : List Loc} {ls : Array Slot} {x0 : Nat} {x1 : Int32} {x2 : Int32} {x3 : Int32} {x4 : Int32} {ro : Int32} {Io : xI} (X : Cx D dA s0 p m c cX5_come 6 s args RX5 meth) (hr : meth.sig.returnType = (some .int)) (hf : fX5_come T N I R x0 x1 x2 x3 x4 = some (ro, Io)) (V : Iv D dA s0 s T N Z I L R H locs) (hl : lv_has ls 6 [(0, .ref x0), (1, .int x1), (2, .int x2), (3, .int x3), (4, .int x4)]) : W p l e { frames := 2, cells := 0, slots := 0, locals := 45 } s m args below meth c H locs 0 0 (MQ below (xQ D dA s0 (some (.int ro)) T N Z Io L R) args s 0 0 (fun q => s0 ≤ q)) (F0 m 0 ls []) := by
  have hx := X.1.1
  have hb := X.1.2.1
  unfold fX5_come at hf
  refine lv_iload_n (pc := 0) hx hb dX5_come_0 rfl (lv_at hl 1 rfl) ?_
  replace hf := bs hf; obtain ⟨r1, hk_2, hf⟩ := hf
  refine x_callS0 (pc := 1) (As := [.int x1]) (rest := []) X V (mX5_isCorner l D dA s0 hk_2) q1732 q1733 q129 q1734 hsX5_isCorner ⟨Nat.le_of_ble_eq_true rfl, Nat.le_of_ble_eq_true rfl⟩ rfl hl.1 rfl (Nat.le_of_ble_eq_true rfl) dX5_come_1 ⟨Nat.zero_le _, Nat.zero_le _⟩ (fun H locs V => W.eq (g2 := F0 m 4 ls [.int r1]) rfl ?_)
  refine lv_if_eq (pc := 4) (tgt := 44) hx hb dX5_come_4 (by decide) (fun c3 => ?_) (fun c3 => ?_)
  · replace hf := if_t hf c3
    refine lv_iconst (pc := 44) (v := (-1 : Int32)) hx hb dX5_come_44 (by decide) ?_
    cases hf
    exact x_iret (pc := 45) X V hr dX5_come_45
  · replace hf := if_f hf c3
    refine lv_iload_n (pc := 7) hx hb dX5_come_7 rfl (lv_at hl 2 rfl) ?_
    replace hf := bs hf; obtain ⟨r4, hk_5, hf⟩ := hf
    refine x_callS0 (pc := 8) (As := [.int x2]) (rest := []) X V (mX5_isCorner l D dA s0 hk_5) q1732 q1733 q129 q1734 hsX5_isCorner ⟨Nat.le_of_ble_eq_true rfl, Nat.le_of_ble_eq_true rfl⟩ rfl hl.1 rfl (Nat.le_of_ble_eq_true rfl) dX5_come_8 ⟨Nat.zero_le _, Nat.zero_le _⟩ (fun H locs V => W.eq (g2 := F0 m 11 ls [.int r4]) rfl ?_)
    refine lv_if_eq (pc := 11) (tgt := 44) hx hb dX5_come_11 (by decide) (fun c6 => ?_) (fun c6 => ?_)
    · replace hf := if_t hf c6
      refine lv_iconst (pc := 44) (v := (-1 : Int32)) hx hb dX5_come_44 (by decide) ?_
      cases hf
      exact x_iret (pc := 45) X V hr dX5_come_45
    · replace hf := if_f hf c6
      refine lv_iload_n (pc := 14) hx hb dX5_come_14 rfl (lv_at hl 1 rfl) ?_
      refine lv_iload_n (pc := 15) hx hb dX5_come_15 rfl (lv_at hl 2 rfl) ?_
      refine lv_icmp_eq (pc := 16) (tgt := 44) hx hb dX5_come_16 (by decide) (fun c7 => ?_) (fun c7 => ?_)
      · replace hf := if_t hf c7
        refine lv_iconst (pc := 44) (v := (-1 : Int32)) hx hb dX5_come_44 (by decide) ?_
        cases hf
        exact x_iret (pc := 45) X V hr dX5_come_45
      · replace hf := if_f hf c7
        refine lv_iload_n (pc := 19) hx hb dX5_come_19 rfl (lv_at hl 3 rfl) ?_
        refine lv_i2l (pc := 20) hx hb dX5_come_20 rfl ?_
        refine lv_lconst (pc := 21) (v := (jj 1)) hx hb dX5_come_21 (by decide) ?_
        refine lv_ldc2 (pc := 22) (v := (jj 9)) hx hb X.1.2.2.2.1 (X.1.2.2.2.2 _ q1736) dX5_come_22 ?_
        replace hf := bs hf; obtain ⟨r8, hk_9, hf⟩ := hf
        refine x_callS0 (pc := 25) (As := [.long ((x3).toInt64), .long (jj 1), .long (jj 9)]) (rest := []) X V (mX5_in l D dA s0 hk_9) q1713 q1714 q129 q1715 hsX5_in ⟨Nat.le_of_ble_eq_true rfl, Nat.le_of_ble_eq_true rfl⟩ rfl hl.1 rfl (Nat.le_of_ble_eq_true rfl) dX5_come_25 ⟨Nat.zero_le _, Nat.zero_le _⟩ (fun H locs V => W.eq (g2 := F0 m 28 ls [.int r8]) rfl ?_)
        refine lv_if_eq (pc := 28) (tgt := 44) hx hb dX5_come_28 (by decide) (fun c10 => ?_) (fun c10 => ?_)
        · replace hf := if_t hf c10
          refine lv_iconst (pc := 44) (v := (-1 : Int32)) hx hb dX5_come_44 (by decide) ?_
          cases hf
          exact x_iret (pc := 45) X V hr dX5_come_45
        · replace hf := if_f hf c10
          refine lv_iload (pc := 31) hx hb dX5_come_31 (lv_at hl 4 rfl) ?_
          refine lv_i2l (pc := 33) hx hb dX5_come_33 rfl ?_
          refine lv_lconst (pc := 34) (v := (jj 0)) hx hb dX5_come_34 (by decide) ?_
          refine lv_ldc2 (pc := 35) (v := (jj 4)) hx hb X.1.2.2.2.1 (X.1.2.2.2.2 _ q1737) dX5_come_35 ?_
          replace hf := bs hf; obtain ⟨r11, hk_12, hf⟩ := hf
          refine x_callS0 (pc := 38) (As := [.long ((x4).toInt64), .long (jj 0), .long (jj 4)]) (rest := []) X V (mX5_in l D dA s0 hk_12) q1713 q1714 q129 q1715 hsX5_in ⟨Nat.le_of_ble_eq_true rfl, Nat.le_of_ble_eq_true rfl⟩ rfl hl.1 rfl (Nat.le_of_ble_eq_true rfl) dX5_come_38 ⟨Nat.zero_le _, Nat.zero_le _⟩ (fun H locs V => W.eq (g2 := F0 m 41 ls [.int r11]) rfl ?_)
          refine lv_if_ne (pc := 41) (tgt := 46) hx hb dX5_come_41 (by decide) (fun c13 => ?_) (fun c13 => ?_)
          · replace hf := if_f hf c13
            refine lv_aload_n (pc := 46) hx hb dX5_come_46 rfl (lv_at hl 0 rfl) ?_
            replace hf := tg_s hf; obtain ⟨ht14, hf⟩ := hf
            replace hf := bs hf; obtain ⟨a15, ha15, hf⟩ := hf
            refine x_get (pc := 47) X V okX5 ht14 3 (by decide) q1524 (v := va_rf (R x0 3)) rfl dX5_come_47 ?_
            refine x_topr ha15 ?_
            refine lv_iconst (pc := 50) (v := (ii 0)) hx hb dX5_come_50 (by decide) ?_
            replace hf := rA_s hf; obtain ⟨j16, hjj16, htj16, hij16, hf⟩ := hf
            refine x_iald (pc := 51) X V htj16 hij16 hjj16 dX5_come_51 ?_
            replace hf := nm_s hf; obtain ⟨u17, hu17, hf⟩ := hf
            refine x_topi hu17 ?_
            refine lv_istore (pc := 52) (lv' := [(5, .int u17), (0, .ref x0), (1, .int x1), (2, .int x2), (3, .int x3), (4, .int x4)]) hx hb dX5_come_52 hl (by decide) rfl (fun ls hl => ?_)
            refine lv_iload (pc := 54) hx hb dX5_come_54 (lv_at hl 0 rfl) ?_
            refine lv_bipush (pc := 56) (v := (ii 10)) hx hb dX5_come_56 (by decide) ?_
            refine lv_icmp_ne (pc := 58) (tgt := 64) hx hb dX5_come_58 (by decide) (fun c18 => ?_) (fun c18 => ?_)
            · replace hf := if_f hf c18
              refine lv_aload_n (pc := 64) hx hb dX5_come_64 rfl (lv_at hl 1 rfl) ?_
              refine x_get (pc := 65) X V okX5 ht14 3 (by decide) q1524 (v := va_rf (R x0 3)) rfl dX5_come_65 ?_
              refine x_topr ha15 ?_
              refine lv_bipush (pc := 68) (v := (ii 26)) hx hb dX5_come_68 (by decide) ?_
              refine lv_iload (pc := 70) hx hb dX5_come_70 (lv_at hl 0 rfl) ?_
              refine lv_iadd (pc := 72) hx hb dX5_come_72 ?_
              refine lv_iload_n (pc := 73) hx hb dX5_come_73 rfl (lv_at hl 2 rfl) ?_
              replace hf := rA_s hf; obtain ⟨j19, hjj19, htj19, hij19, hf⟩ := hf
              replace hf := nm_s hf; obtain ⟨I20, hI20, hf⟩ := hf
              refine x_iast (pc := 74) X V htj19 hij19 hjj19 hI20 dX5_come_74 (fun H locs V => ?_)
              refine lv_aload_n (pc := 75) hx hb dX5_come_75 rfl (lv_at hl 1 rfl) ?_
              refine x_get (pc := 76) X V okX5 ht14 3 (by decide) q1524 (v := va_rf (R x0 3)) rfl dX5_come_76 ?_
              refine x_topr ha15 ?_
              refine lv_bipush (pc := 79) (v := (ii 36)) hx hb dX5_come_79 (by decide) ?_
              refine lv_iload (pc := 81) hx hb dX5_come_81 (lv_at hl 0 rfl) ?_
              refine lv_iadd (pc := 83) hx hb dX5_come_83 ?_
              refine lv_iload_n (pc := 84) hx hb dX5_come_84 rfl (lv_at hl 3 rfl) ?_
              replace hf := rA_s hf; obtain ⟨j21, hjj21, htj21, hij21, hf⟩ := hf
              replace hf := nm_s hf; obtain ⟨I22, hI22, hf⟩ := hf
              refine x_iast (pc := 85) X V htj21 hij21 hjj21 hI22 dX5_come_85 (fun H locs V => ?_)
              refine lv_aload_n (pc := 86) hx hb dX5_come_86 rfl (lv_at hl 1 rfl) ?_
              refine x_get (pc := 87) X V okX5 ht14 3 (by decide) q1524 (v := va_rf (R x0 3)) rfl dX5_come_87 ?_
              refine x_topr ha15 ?_
              refine lv_bipush (pc := 90) (v := (ii 46)) hx hb dX5_come_90 (by decide) ?_
              refine lv_iload (pc := 92) hx hb dX5_come_92 (lv_at hl 0 rfl) ?_
              refine lv_iadd (pc := 94) hx hb dX5_come_94 ?_
              refine lv_iload_n (pc := 95) hx hb dX5_come_95 rfl (lv_at hl 4 rfl) ?_
              replace hf := rA_s hf; obtain ⟨j23, hjj23, htj23, hij23, hf⟩ := hf
              replace hf := nm_s hf; obtain ⟨I24, hI24, hf⟩ := hf
              refine x_iast (pc := 96) X V htj23 hij23 hjj23 hI24 dX5_come_96 (fun H locs V => ?_)
              refine lv_aload_n (pc := 97) hx hb dX5_come_97 rfl (lv_at hl 1 rfl) ?_
              refine x_get (pc := 98) X V okX5 ht14 3 (by decide) q1524 (v := va_rf (R x0 3)) rfl dX5_come_98 ?_
              refine x_topr ha15 ?_
              refine lv_bipush (pc := 101) (v := (ii 56)) hx hb dX5_come_101 (by decide) ?_
              refine lv_iload (pc := 103) hx hb dX5_come_103 (lv_at hl 0 rfl) ?_
              refine lv_iadd (pc := 105) hx hb dX5_come_105 ?_
              refine lv_iload (pc := 106) hx hb dX5_come_106 (lv_at hl 5 rfl) ?_
              replace hf := rA_s hf; obtain ⟨j25, hjj25, htj25, hij25, hf⟩ := hf
              replace hf := nm_s hf; obtain ⟨I26, hI26, hf⟩ := hf
              refine x_iast (pc := 108) X V htj25 hij25 hjj25 hI26 dX5_come_108 (fun H locs V => ?_)
              refine lv_aload_n (pc := 109) hx hb dX5_come_109 rfl (lv_at hl 1 rfl) ?_
              refine x_get (pc := 110) X V okX5 ht14 3 (by decide) q1524 (v := va_rf (R x0 3)) rfl dX5_come_110 ?_
              refine x_topr ha15 ?_
              refine lv_bipush (pc := 113) (v := (ii 8)) hx hb dX5_come_113 (by decide) ?_
              refine lv_iload (pc := 115) hx hb dX5_come_115 (lv_at hl 0 rfl) ?_
              refine lv_iadd (pc := 117) hx hb dX5_come_117 ?_
              refine lv_iconst (pc := 118) (v := (-1 : Int32)) hx hb dX5_come_118 (by decide) ?_
              replace hf := rA_s hf; obtain ⟨j27, hjj27, htj27, hij27, hf⟩ := hf
              replace hf := nm_s hf; obtain ⟨I28, hI28, hf⟩ := hf
              refine x_iast (pc := 119) X V htj27 hij27 hjj27 hI28 dX5_come_119 (fun H locs V => ?_)
              refine lv_aload_n (pc := 120) hx hb dX5_come_120 rfl (lv_at hl 1 rfl) ?_
              refine x_get (pc := 121) X V okX5 ht14 3 (by decide) q1524 (v := va_rf (R x0 3)) rfl dX5_come_121 ?_
              refine x_topr ha15 ?_
              refine lv_iconst (pc := 124) (v := (ii 0)) hx hb dX5_come_124 (by decide) ?_
              refine lv_dup2_11 (pc := 125) hx hb dX5_come_125 rfl rfl ?_
              refine x_iald (pc := 126) X V htj16 hij16 hjj16 dX5_come_126 ?_
              refine lv_iconst (pc := 127) (v := (ii 1)) hx hb dX5_come_127 (by decide) ?_
              refine lv_iadd (pc := 128) hx hb dX5_come_128 ?_
              replace hf := nm_s hf; obtain ⟨I29, hI29, hf⟩ := hf
              refine x_iast (pc := 129) X V htj16 hij16 hjj16 hI29 dX5_come_129 (fun H locs V => ?_)
              refine lv_iload (pc := 130) hx hb dX5_come_130 (lv_at hl 0 rfl) ?_
              cases hf
              exact x_iret (pc := 132) X V hr dX5_come_132
            · replace hf := if_t hf c18
              refine lv_bipush (pc := 61) (v := (-5 : Int32)) hx hb dX5_come_61 (by decide) ?_
              cases hf
              exact x_iret (pc := 63) X V hr dX5_come_63
          · replace hf := if_t hf c13
            refine lv_iconst (pc := 44) (v := (-1 : Int32)) hx hb dX5_come_44 (by decide) ?_
            cases hf
            exact x_iret (pc := 45) X V hr dX5_come_45
theorem mX5_come (l : Launch) (D : va_G) (dA : Nat → ClassId) (s0 : Nat) {T : xT} {N : xT} {Z : Nat} {I : xI} {L : xL} {R : xR} {x0 : Nat} {x1 : Int32} {x2 : Int32} {x3 : Int32} {x4 : Int32} {ro : Int32} {Io : xI} (hf : fX5_come T N I R x0 x1 x2 x3 x4 = some (ro, Io)) : XMet l D dA s0 yX5_come (ws_ yX5_come cX5_come 6 ((some .int))) (2) (45) [.ref x0, .int x1, .int x2, .int x3, .int x4] T N Z I L R (some (.int ro)) T N Z Io L R 0 0 :=
  x_start (own := RX5) rfl (by decide) (Nat.le_of_ble_eq_true rfl) (lv := [(0, .ref x0), (1, .int x1), (2, .int x2), (3, .int x3), (4, .int x4)]) rfl (fun p e s m below meth c ls X hr hini V hl => wX5_come_e X hr hf V hl)
set_option maxHeartbeats 400000 in
set_option maxRecDepth 100000 in
theorem wX5_lane_e {p : Program} {l : Launch} {e : Env} {s : State} {m : MethodId} {args : Array Value} {below : List Frame} {meth : Method} {c : Code} {D : va_G} {dA : Nat → ClassId} {s0 : Nat} {T : xT} {N : xT} {Z : Nat} {I : xI} {L : xL} {R : xR} {H : Heap} {locs : List Loc} {ls : Array Slot} {x0 : Nat} {x1 : Int32} {x2 : Int32} {x3 : Int32} {x4 : Int32} {ro : Int32} {Io : xI} (X : Cx D dA s0 p m c cX5_lane 5 s args RX5 meth) (hr : meth.sig.returnType = (some .int)) (hf : fX5_lane T N I R x0 x1 x2 x3 x4 = some (ro, Io)) (V : Iv D dA s0 s T N Z I L R H locs) (hl : lv_has ls 5 [(0, .ref x0), (1, .int x1), (2, .int x2), (3, .int x3), (4, .int x4)]) : W p l e { frames := 3, cells := 0, slots := 0, locals := 70 } s m args below meth c H locs 0 0 (MQ below (xQ D dA s0 (some (.int ro)) T N Z Io L R) args s 0 0 (fun q => s0 ≤ q)) (F0 m 0 ls []) := by
  have hx := X.1.1
  have hb := X.1.2.1
  unfold fX5_lane at hf
  refine lv_aload_n (pc := 0) hx hb dX5_lane_0 rfl (lv_at hl 0 rfl) ?_
  refine lv_iconst (pc := 1) (v := (ii 0)) hx hb dX5_lane_1 (by decide) ?_
  replace hf := tg_s hf; obtain ⟨ht1, hf⟩ := hf
  replace hf := nm_s hf; obtain ⟨I2, hI2, hf⟩ := hf
  refine x_puti (pc := 2) X V okX5 (by decide) ht1 0 (by decide) q1521 (Or.inl rfl) hI2 (fun _ _ _ => rfl) rfl rfl dX5_lane_2 (fun H locs V => ?_)
  refine lv_aload_n (pc := 5) hx hb dX5_lane_5 rfl (lv_at hl 0 rfl) ?_
  refine lv_aload_n (pc := 6) hx hb dX5_lane_6 rfl (lv_at hl 0 rfl) ?_
  refine lv_iload_n (pc := 7) hx hb dX5_lane_7 rfl (lv_at hl 1 rfl) ?_
  refine lv_iload_n (pc := 8) hx hb dX5_lane_8 rfl (lv_at hl 2 rfl) ?_
  refine lv_iload_n (pc := 9) hx hb dX5_lane_9 rfl (lv_at hl 3 rfl) ?_
  refine lv_iload (pc := 10) hx hb dX5_lane_10 (lv_at hl 4 rfl) ?_
  replace hf := b2s hf; obtain ⟨r3, I4, hk_5, hf⟩ := hf
  refine x_callV0 (pc := 12) (As := [.int x1, .int x2, .int x3, .int x4]) (rest := [.ref x0]) X V (mX5_come l D dA s0 hk_5) okX5 ht1 q1728 q1730 qs48 q129 q1731 ⟨rfl, hsX5_come⟩ ⟨Nat.le_of_ble_eq_true rfl, Nat.le_of_ble_eq_true rfl⟩ rfl hl.1 rfl (Nat.le_of_ble_eq_true rfl) dX5_lane_12 ⟨Nat.zero_le _, Nat.zero_le _⟩ (fun H locs V => W.eq (g2 := F0 m 15 ls [.int r3, .ref x0]) rfl ?_)
  replace hf := b2s hf; obtain ⟨r6, I7, hk_8, hf⟩ := hf
  refine x_callV0 (pc := 15) (As := [.int r3]) (rest := []) X V (mX5_lasting l D dA s0 hk_8) okX5 ht1 q1720 q1722 qs47 q129 q1723 ⟨rfl, hsX5_lasting⟩ ⟨Nat.le_of_ble_eq_true rfl, Nat.le_of_ble_eq_true rfl⟩ rfl hl.1 rfl (Nat.le_of_ble_eq_true rfl) dX5_lane_15 ⟨Nat.zero_le _, Nat.zero_le _⟩ (fun H locs V => W.eq (g2 := F0 m 18 ls [.int r6]) rfl ?_)
  cases hf
  exact x_iret (pc := 18) X V hr dX5_lane_18
theorem mX5_lane (l : Launch) (D : va_G) (dA : Nat → ClassId) (s0 : Nat) {T : xT} {N : xT} {Z : Nat} {I : xI} {L : xL} {R : xR} {x0 : Nat} {x1 : Int32} {x2 : Int32} {x3 : Int32} {x4 : Int32} {ro : Int32} {Io : xI} (hf : fX5_lane T N I R x0 x1 x2 x3 x4 = some (ro, Io)) : XMet l D dA s0 yX5_lane (ws_ yX5_lane cX5_lane 5 ((some .int))) (3) (70) [.ref x0, .int x1, .int x2, .int x3, .int x4] T N Z I L R (some (.int ro)) T N Z Io L R 0 0 :=
  x_start (own := RX5) rfl (by decide) (Nat.le_of_ble_eq_true rfl) (lv := [(0, .ref x0), (1, .int x1), (2, .int x2), (3, .int x3), (4, .int x4)]) rfl (fun p e s m below meth c ls X hr hini V hl => wX5_lane_e X hr hf V hl)
set_option maxHeartbeats 400000 in
set_option maxRecDepth 100000 in
theorem wX5_isLane_e {p : Program} {l : Launch} {e : Env} {s : State} {m : MethodId} {args : Array Value} {below : List Frame} {meth : Method} {c : Code} {D : va_G} {dA : Nat → ClassId} {s0 : Nat} {T : xT} {N : xT} {Z : Nat} {I : xI} {L : xL} {R : xR} {H : Heap} {locs : List Loc} {ls : Array Slot} {x0 : Nat} {x1 : Int32} {ro : Int32} (X : Cx D dA s0 p m c cX5_isLane 2 s args RX5 meth) (hr : meth.sig.returnType = (some .boolean)) (hf : fX5_isLane T N I R x0 x1 = some ro) (V : Iv D dA s0 s T N Z I L R H locs) (hl : lv_has ls 2 [(0, .ref x0), (1, .int x1)]) : W p l e { frames := 1, cells := 0, slots := 0, locals := 25 } s m args below meth c H locs 0 0 (MQ below (xQ D dA s0 (some (.int ro)) T N Z I L R) args s 0 0 (fun q => s0 ≤ q)) (F0 m 0 ls []) := by
  have hx := X.1.1
  have hb := X.1.2.1
  unfold fX5_isLane at hf
  refine lv_iload_n (pc := 0) hx hb dX5_isLane_0 rfl (lv_at hl 1 rfl) ?_
  refine lv_i2l (pc := 1) hx hb dX5_isLane_1 rfl ?_
  refine lv_lconst (pc := 2) (v := (jj 0)) hx hb dX5_isLane_2 (by decide) ?_
  refine lv_aload_n (pc := 3) hx hb dX5_isLane_3 rfl (lv_at hl 0 rfl) ?_
  replace hf := tg_s hf; obtain ⟨ht1, hf⟩ := hf
  replace hf := bs hf; obtain ⟨a2, ha2, hf⟩ := hf
  refine x_get (pc := 4) X V okX5 ht1 3 (by decide) q1524 (v := va_rf (R x0 3)) rfl dX5_isLane_4 ?_
  refine x_topr ha2 ?_
  refine lv_iconst (pc := 7) (v := (ii 0)) hx hb dX5_isLane_7 (by decide) ?_
  replace hf := rA_s hf; obtain ⟨j3, hjj3, htj3, hij3, hf⟩ := hf
  refine x_iald (pc := 8) X V htj3 hij3 hjj3 dX5_isLane_8 ?_
  refine lv_i2l (pc := 9) hx hb dX5_isLane_9 rfl ?_
  refine lv_lconst (pc := 10) (v := (jj 1)) hx hb dX5_isLane_10 (by decide) ?_
  refine lv_lsub (pc := 11) hx hb dX5_isLane_11 ?_
  replace hf := bs hf; obtain ⟨r4, hk_5, hf⟩ := hf
  refine x_callS0 (pc := 12) (As := [.long ((x1).toInt64), .long (jj 0), .long ((((I a2 j3)).toInt64) - (jj 1))]) (rest := []) X V (mX5_in l D dA s0 hk_5) q1713 q1714 q129 q1715 hsX5_in ⟨Nat.le_of_ble_eq_true rfl, Nat.le_of_ble_eq_true rfl⟩ rfl hl.1 rfl (Nat.le_of_ble_eq_true rfl) dX5_isLane_12 ⟨Nat.zero_le _, Nat.zero_le _⟩ (fun H locs V => W.eq (g2 := F0 m 15 ls [.int r4]) rfl ?_)
  replace hf := chk_s hf; obtain ⟨hz6, hf⟩ := hf
  cases hf
  exact x_zret (pc := 15) X V hr hz6 dX5_isLane_15
theorem mX5_isLane (l : Launch) (D : va_G) (dA : Nat → ClassId) (s0 : Nat) {T : xT} {N : xT} {Z : Nat} {I : xI} {L : xL} {R : xR} {x0 : Nat} {x1 : Int32} {ro : Int32} (hf : fX5_isLane T N I R x0 x1 = some ro) : XMet l D dA s0 yX5_isLane (ws_ yX5_isLane cX5_isLane 2 ((some .boolean))) (1) (25) [.ref x0, .int x1] T N Z I L R (some (.int ro)) T N Z I L R 0 0 :=
  x_start (own := RX5) rfl (by decide) (Nat.le_of_ble_eq_true rfl) (lv := [(0, .ref x0), (1, .int x1)]) rfl (fun p e s m below meth c ls X hr hini V hl => wX5_isLane_e X hr hf V hl)
set_option maxHeartbeats 400000 in
set_option maxRecDepth 100000 in
theorem wX5_at_e {p : Program} {l : Launch} {e : Env} {s : State} {m : MethodId} {args : Array Value} {below : List Frame} {meth : Method} {c : Code} {D : va_G} {dA : Nat → ClassId} {s0 : Nat} {T : xT} {N : xT} {Z : Nat} {I : xI} {L : xL} {R : xR} {H : Heap} {locs : List Loc} {ls : Array Slot} {x0 : Nat} {x1 : Int32} {x2 : Int32} {ro : Int32} {Io : xI} (X : Cx D dA s0 p m c cX5_at 3 s args RX5 meth) (hr : meth.sig.returnType = (some .int)) (hf : fX5_at T N I R x0 x1 x2 = some (ro, Io)) (V : Iv D dA s0 s T N Z I L R H locs) (hl : lv_has ls 3 [(0, .ref x0), (1, .int x1), (2, .int x2)]) : W p l e { frames := 2, cells := 0, slots := 0, locals := 46 } s m args below meth c H locs 0 0 (MQ below (xQ D dA s0 (some (.int ro)) T N Z Io L R) args s 0 0 (fun q => s0 ≤ q)) (F0 m 0 ls []) := by
  have hx := X.1.1
  have hb := X.1.2.1
  unfold fX5_at at hf
  refine lv_aload_n (pc := 0) hx hb dX5_at_0 rfl (lv_at hl 0 rfl) ?_
  refine lv_iconst (pc := 1) (v := (ii 0)) hx hb dX5_at_1 (by decide) ?_
  replace hf := tg_s hf; obtain ⟨ht1, hf⟩ := hf
  replace hf := nm_s hf; obtain ⟨I2, hI2, hf⟩ := hf
  refine x_puti (pc := 2) X V okX5 (by decide) ht1 0 (by decide) q1521 (Or.inl rfl) hI2 (fun _ _ _ => rfl) rfl rfl dX5_at_2 (fun H locs V => ?_)
  refine lv_aload_n (pc := 5) hx hb dX5_at_5 rfl (lv_at hl 0 rfl) ?_
  refine lv_iload_n (pc := 6) hx hb dX5_at_6 rfl (lv_at hl 1 rfl) ?_
  replace hf := bs hf; obtain ⟨r3, hk_4, hf⟩ := hf
  refine x_callV0 (pc := 7) (As := [.int x1]) (rest := []) X V (mX5_isLane l D dA s0 hk_4) okX5 ht1 q1742 q1744 qs49 q129 q1745 ⟨rfl, hsX5_isLane⟩ ⟨Nat.le_of_ble_eq_true rfl, Nat.le_of_ble_eq_true rfl⟩ rfl hl.1 rfl (Nat.le_of_ble_eq_true rfl) dX5_at_7 ⟨Nat.zero_le _, Nat.zero_le _⟩ (fun H locs V => W.eq (g2 := F0 m 10 ls [.int r3]) rfl ?_)
  refine lv_if_ne (pc := 10) (tgt := 15) hx hb dX5_at_10 (by decide) (fun c5 => ?_) (fun c5 => ?_)
  · replace hf := if_f hf c5
    refine lv_iload_n (pc := 15) hx hb dX5_at_15 rfl (lv_at hl 2 rfl) ?_
    by_cases c6 : x2 = (ii 0)
    · replace hf := if_t hf c6
      refine x_tswIn (pc := 16) (tgt := 52) (off := 36) hx hb c6 dX5_at_16 (by decide) (by decide) (by decide) (by decide) ?_
      refine lv_aload_n (pc := 52) hx hb dX5_at_52 rfl (lv_at hl 0 rfl) ?_
      replace hf := bs hf; obtain ⟨a7, ha7, hf⟩ := hf
      refine x_get (pc := 53) X V okX5 ht1 3 (by decide) q1524 (v := va_rf (R x0 3)) rfl dX5_at_53 ?_
      refine x_topr ha7 ?_
      refine lv_bipush (pc := 56) (v := (ii 26)) hx hb dX5_at_56 (by decide) ?_
      refine lv_iload_n (pc := 58) hx hb dX5_at_58 rfl (lv_at hl 1 rfl) ?_
      refine lv_iadd (pc := 59) hx hb dX5_at_59 ?_
      replace hf := rA_s hf; obtain ⟨j8, hjj8, htj8, hij8, hf⟩ := hf
      refine x_iald (pc := 60) X V htj8 hij8 hjj8 dX5_at_60 ?_
      cases hf
      exact x_iret (pc := 61) X V hr dX5_at_61
    replace hf := if_f hf c6
    by_cases c9 : x2 = (ii 1)
    · replace hf := if_t hf c9
      refine x_tswIn (pc := 16) (tgt := 62) (off := 46) hx hb c9 dX5_at_16 (by decide) (by decide) (by decide) (by decide) ?_
      refine lv_aload_n (pc := 62) hx hb dX5_at_62 rfl (lv_at hl 0 rfl) ?_
      replace hf := bs hf; obtain ⟨a10, ha10, hf⟩ := hf
      refine x_get (pc := 63) X V okX5 ht1 3 (by decide) q1524 (v := va_rf (R x0 3)) rfl dX5_at_63 ?_
      refine x_topr ha10 ?_
      refine lv_bipush (pc := 66) (v := (ii 36)) hx hb dX5_at_66 (by decide) ?_
      refine lv_iload_n (pc := 68) hx hb dX5_at_68 rfl (lv_at hl 1 rfl) ?_
      refine lv_iadd (pc := 69) hx hb dX5_at_69 ?_
      replace hf := rA_s hf; obtain ⟨j11, hjj11, htj11, hij11, hf⟩ := hf
      refine x_iald (pc := 70) X V htj11 hij11 hjj11 dX5_at_70 ?_
      cases hf
      exact x_iret (pc := 71) X V hr dX5_at_71
    replace hf := if_f hf c9
    by_cases c12 : x2 = (ii 2)
    · replace hf := if_t hf c12
      refine x_tswIn (pc := 16) (tgt := 72) (off := 56) hx hb c12 dX5_at_16 (by decide) (by decide) (by decide) (by decide) ?_
      refine lv_aload_n (pc := 72) hx hb dX5_at_72 rfl (lv_at hl 0 rfl) ?_
      replace hf := bs hf; obtain ⟨a13, ha13, hf⟩ := hf
      refine x_get (pc := 73) X V okX5 ht1 3 (by decide) q1524 (v := va_rf (R x0 3)) rfl dX5_at_73 ?_
      refine x_topr ha13 ?_
      refine lv_bipush (pc := 76) (v := (ii 46)) hx hb dX5_at_76 (by decide) ?_
      refine lv_iload_n (pc := 78) hx hb dX5_at_78 rfl (lv_at hl 1 rfl) ?_
      refine lv_iadd (pc := 79) hx hb dX5_at_79 ?_
      replace hf := rA_s hf; obtain ⟨j14, hjj14, htj14, hij14, hf⟩ := hf
      refine x_iald (pc := 80) X V htj14 hij14 hjj14 dX5_at_80 ?_
      cases hf
      exact x_iret (pc := 81) X V hr dX5_at_81
    replace hf := if_f hf c12
    by_cases c15 : x2 = (ii 3)
    · replace hf := if_t hf c15
      refine x_tswIn (pc := 16) (tgt := 82) (off := 66) hx hb c15 dX5_at_16 (by decide) (by decide) (by decide) (by decide) ?_
      refine lv_aload_n (pc := 82) hx hb dX5_at_82 rfl (lv_at hl 0 rfl) ?_
      replace hf := bs hf; obtain ⟨a16, ha16, hf⟩ := hf
      refine x_get (pc := 83) X V okX5 ht1 3 (by decide) q1524 (v := va_rf (R x0 3)) rfl dX5_at_83 ?_
      refine x_topr ha16 ?_
      refine lv_bipush (pc := 86) (v := (ii 56)) hx hb dX5_at_86 (by decide) ?_
      refine lv_iload_n (pc := 88) hx hb dX5_at_88 rfl (lv_at hl 1 rfl) ?_
      refine lv_iadd (pc := 89) hx hb dX5_at_89 ?_
      replace hf := rA_s hf; obtain ⟨j17, hjj17, htj17, hij17, hf⟩ := hf
      refine x_iald (pc := 90) X V htj17 hij17 hjj17 dX5_at_90 ?_
      cases hf
      exact x_iret (pc := 91) X V hr dX5_at_91
    replace hf := if_f hf c15
    by_cases c18 : x2 = (ii 4)
    · replace hf := if_t hf c18
      refine x_tswIn (pc := 16) (tgt := 92) (off := 76) hx hb c18 dX5_at_16 (by decide) (by decide) (by decide) (by decide) ?_
      refine lv_aload_n (pc := 92) hx hb dX5_at_92 rfl (lv_at hl 0 rfl) ?_
      replace hf := bs hf; obtain ⟨a19, ha19, hf⟩ := hf
      refine x_get (pc := 93) X V okX5 ht1 3 (by decide) q1524 (v := va_rf (R x0 3)) rfl dX5_at_93 ?_
      refine x_topr ha19 ?_
      refine lv_bipush (pc := 96) (v := (ii 8)) hx hb dX5_at_96 (by decide) ?_
      refine lv_iload_n (pc := 98) hx hb dX5_at_98 rfl (lv_at hl 1 rfl) ?_
      refine lv_iadd (pc := 99) hx hb dX5_at_99 ?_
      replace hf := rA_s hf; obtain ⟨j20, hjj20, htj20, hij20, hf⟩ := hf
      refine x_iald (pc := 100) X V htj20 hij20 hjj20 dX5_at_100 ?_
      cases hf
      exact x_iret (pc := 101) X V hr dX5_at_101
    replace hf := if_f hf c18
    refine lv_tableOut (pc := 16) (tgt := 102) hx hb dX5_at_16 (by have qc6 := lv_neT c6 (a := 0) (by decide); have qc9 := lv_neT c9 (a := 1) (by decide); have qc12 := lv_neT c12 (a := 2) (by decide); have qc15 := lv_neT c15 (a := 3) (by decide); have qc18 := lv_neT c18 (a := 4) (by decide); omega) (by decide) ?_
    refine lv_iconst (pc := 102) (v := (-1 : Int32)) hx hb dX5_at_102 (by decide) ?_
    cases hf
    exact x_iret (pc := 103) X V hr dX5_at_103
  · replace hf := if_t hf c5
    refine lv_iconst (pc := 13) (v := (-1 : Int32)) hx hb dX5_at_13 (by decide) ?_
    cases hf
    exact x_iret (pc := 14) X V hr dX5_at_14
theorem mX5_at (l : Launch) (D : va_G) (dA : Nat → ClassId) (s0 : Nat) {T : xT} {N : xT} {Z : Nat} {I : xI} {L : xL} {R : xR} {x0 : Nat} {x1 : Int32} {x2 : Int32} {ro : Int32} {Io : xI} (hf : fX5_at T N I R x0 x1 x2 = some (ro, Io)) : XMet l D dA s0 yX5_at (ws_ yX5_at cX5_at 3 ((some .int))) (2) (46) [.ref x0, .int x1, .int x2] T N Z I L R (some (.int ro)) T N Z Io L R 0 0 :=
  x_start (own := RX5) rfl (by decide) (Nat.le_of_ble_eq_true rfl) (lv := [(0, .ref x0), (1, .int x1), (2, .int x2)]) rfl (fun p e s m below meth c ls X hr hini V hl => wX5_at_e X hr hf V hl)
set_option maxHeartbeats 400000 in
set_option maxRecDepth 100000 in
theorem wX5_child_e {p : Program} {l : Launch} {e : Env} {s : State} {m : MethodId} {args : Array Value} {below : List Frame} {meth : Method} {c : Code} {D : va_G} {dA : Nat → ClassId} {s0 : Nat} {T : xT} {N : xT} {Z : Nat} {I : xI} {L : xL} {R : xR} {H : Heap} {locs : List Loc} {ls : Array Slot} {x0 : Nat} {x1 : Int32} {x2 : Int32} {ro : Int32} {Io : xI} (X : Cx D dA s0 p m c cX5_child 4 s args RX5 meth) (hr : meth.sig.returnType = (some .int)) (hf : fX5_child T N I R x0 x1 x2 = some (ro, Io)) (V : Iv D dA s0 s T N Z I L R H locs) (hl : lv_has ls 4 [(0, .ref x0), (1, .int x1), (2, .int x2)]) : W p l e { frames := 2, cells := 0, slots := 0, locals := 45 } s m args below meth c H locs 0 0 (MQ below (xQ D dA s0 (some (.int ro)) T N Z Io L R) args s 0 0 (fun q => s0 ≤ q)) (F0 m 0 ls []) := by
  have hx := X.1.1
  have hb := X.1.2.1
  unfold fX5_child at hf
  refine lv_aload_n (pc := 0) hx hb dX5_child_0 rfl (lv_at hl 0 rfl) ?_
  refine lv_iconst (pc := 1) (v := (ii 0)) hx hb dX5_child_1 (by decide) ?_
  replace hf := tg_s hf; obtain ⟨ht1, hf⟩ := hf
  replace hf := nm_s hf; obtain ⟨I2, hI2, hf⟩ := hf
  refine x_puti (pc := 2) X V okX5 (by decide) ht1 0 (by decide) q1521 (Or.inl rfl) hI2 (fun _ _ _ => rfl) rfl rfl dX5_child_2 (fun H locs V => ?_)
  refine lv_iload_n (pc := 5) hx hb dX5_child_5 rfl (lv_at hl 1 rfl) ?_
  refine lv_i2l (pc := 6) hx hb dX5_child_6 rfl ?_
  refine lv_lconst (pc := 7) (v := (jj 1)) hx hb dX5_child_7 (by decide) ?_
  refine lv_ldc2 (pc := 8) (v := (jj 9)) hx hb X.1.2.2.2.1 (X.1.2.2.2.2 _ q1736) dX5_child_8 ?_
  replace hf := bs hf; obtain ⟨r3, hk_4, hf⟩ := hf
  refine x_callS0 (pc := 11) (As := [.long ((x1).toInt64), .long (jj 1), .long (jj 9)]) (rest := []) X V (mX5_in l D dA s0 hk_4) q1713 q1714 q129 q1715 hsX5_in ⟨Nat.le_of_ble_eq_true rfl, Nat.le_of_ble_eq_true rfl⟩ rfl hl.1 rfl (Nat.le_of_ble_eq_true rfl) dX5_child_11 ⟨Nat.zero_le _, Nat.zero_le _⟩ (fun H locs V => W.eq (g2 := F0 m 14 ls [.int r3]) rfl ?_)
  refine lv_if_eq (pc := 14) (tgt := 24) hx hb dX5_child_14 (by decide) (fun c5 => ?_) (fun c5 => ?_)
  · replace hf := if_t hf c5
    refine lv_aload_n (pc := 24) hx hb dX5_child_24 rfl (lv_at hl 0 rfl) ?_
    refine lv_iconst (pc := 25) (v := (-1 : Int32)) hx hb dX5_child_25 (by decide) ?_
    replace hf := b2s hf; obtain ⟨r6, I7, hk_8, hf⟩ := hf
    refine x_callV0 (pc := 26) (As := [.int (-1 : Int32)]) (rest := []) X V (mX5_tell l D dA s0 hk_8) okX5 ht1 q1701 q1703 qs45 q129 q1704 ⟨rfl, hsX5_tell⟩ ⟨Nat.le_of_ble_eq_true rfl, Nat.le_of_ble_eq_true rfl⟩ rfl hl.1 rfl (Nat.le_of_ble_eq_true rfl) dX5_child_26 ⟨Nat.zero_le _, Nat.zero_le _⟩ (fun H locs V => W.eq (g2 := F0 m 29 ls [.int r6]) rfl ?_)
    cases hf
    exact x_iret (pc := 29) X V hr dX5_child_29
  · replace hf := if_f hf c5
    refine lv_iload_n (pc := 17) hx hb dX5_child_17 rfl (lv_at hl 2 rfl) ?_
    replace hf := bs hf; obtain ⟨r9, hk_10, hf⟩ := hf
    refine x_callS0 (pc := 18) (As := [.int x2]) (rest := []) X V (mX5_isCorner l D dA s0 hk_10) q1732 q1733 q129 q1734 hsX5_isCorner ⟨Nat.le_of_ble_eq_true rfl, Nat.le_of_ble_eq_true rfl⟩ rfl hl.1 rfl (Nat.le_of_ble_eq_true rfl) dX5_child_18 ⟨Nat.zero_le _, Nat.zero_le _⟩ (fun H locs V => W.eq (g2 := F0 m 21 ls [.int r9]) rfl ?_)
    refine lv_if_ne (pc := 21) (tgt := 30) hx hb dX5_child_21 (by decide) (fun c11 => ?_) (fun c11 => ?_)
    · replace hf := if_f hf c11
      refine lv_aload_n (pc := 30) hx hb dX5_child_30 rfl (lv_at hl 0 rfl) ?_
      replace hf := bs hf; obtain ⟨a12, ha12, hf⟩ := hf
      refine x_get (pc := 31) X V okX5 ht1 3 (by decide) q1524 (v := va_rf (R x0 3)) rfl dX5_child_31 ?_
      refine x_topr ha12 ?_
      refine lv_iconst (pc := 34) (v := (ii 1)) hx hb dX5_child_34 (by decide) ?_
      replace hf := rA_s hf; obtain ⟨j13, hjj13, htj13, hij13, hf⟩ := hf
      refine x_iald (pc := 35) X V htj13 hij13 hjj13 dX5_child_35 ?_
      replace hf := nm_s hf; obtain ⟨u14, hu14, hf⟩ := hf
      refine x_topi hu14 ?_
      refine lv_istore_n (pc := 36) (lv' := [(3, .int u14), (0, .ref x0), (1, .int x1), (2, .int x2)]) hx hb dX5_child_36 rfl hl (by decide) rfl (fun ls hl => ?_)
      refine lv_iload_n (pc := 37) hx hb dX5_child_37 rfl (lv_at hl 0 rfl) ?_
      refine lv_iconst (pc := 38) (v := (ii 4)) hx hb dX5_child_38 (by decide) ?_
      refine lv_icmp_ne (pc := 39) (tgt := 49) hx hb dX5_child_39 (by decide) (fun c15 => ?_) (fun c15 => ?_)
      · replace hf := if_f hf c15
        refine lv_aload_n (pc := 49) hx hb dX5_child_49 rfl (lv_at hl 1 rfl) ?_
        refine x_get (pc := 50) X V okX5 ht1 3 (by decide) q1524 (v := va_rf (R x0 3)) rfl dX5_child_50 ?_
        refine x_topr ha12 ?_
        refine lv_bipush (pc := 53) (v := (ii 66)) hx hb dX5_child_53 (by decide) ?_
        refine lv_iload_n (pc := 55) hx hb dX5_child_55 rfl (lv_at hl 0 rfl) ?_
        refine lv_iadd (pc := 56) hx hb dX5_child_56 ?_
        refine lv_iload_n (pc := 57) hx hb dX5_child_57 rfl (lv_at hl 2 rfl) ?_
        replace hf := rA_s hf; obtain ⟨j16, hjj16, htj16, hij16, hf⟩ := hf
        replace hf := nm_s hf; obtain ⟨I17, hI17, hf⟩ := hf
        refine x_iast (pc := 58) X V htj16 hij16 hjj16 hI17 dX5_child_58 (fun H locs V => ?_)
        refine lv_aload_n (pc := 59) hx hb dX5_child_59 rfl (lv_at hl 1 rfl) ?_
        refine x_get (pc := 60) X V okX5 ht1 3 (by decide) q1524 (v := va_rf (R x0 3)) rfl dX5_child_60 ?_
        refine x_topr ha12 ?_
        refine lv_bipush (pc := 63) (v := (ii 18)) hx hb dX5_child_63 (by decide) ?_
        refine lv_iload_n (pc := 65) hx hb dX5_child_65 rfl (lv_at hl 0 rfl) ?_
        refine lv_iadd (pc := 66) hx hb dX5_child_66 ?_
        refine lv_iload_n (pc := 67) hx hb dX5_child_67 rfl (lv_at hl 3 rfl) ?_
        replace hf := rA_s hf; obtain ⟨j18, hjj18, htj18, hij18, hf⟩ := hf
        replace hf := nm_s hf; obtain ⟨I19, hI19, hf⟩ := hf
        refine x_iast (pc := 68) X V htj18 hij18 hjj18 hI19 dX5_child_68 (fun H locs V => ?_)
        refine lv_aload_n (pc := 69) hx hb dX5_child_69 rfl (lv_at hl 1 rfl) ?_
        refine x_get (pc := 70) X V okX5 ht1 3 (by decide) q1524 (v := va_rf (R x0 3)) rfl dX5_child_70 ?_
        refine x_topr ha12 ?_
        refine lv_bipush (pc := 73) (v := (ii 22)) hx hb dX5_child_73 (by decide) ?_
        refine lv_iload_n (pc := 75) hx hb dX5_child_75 rfl (lv_at hl 0 rfl) ?_
        refine lv_iadd (pc := 76) hx hb dX5_child_76 ?_
        refine lv_iconst (pc := 77) (v := (-1 : Int32)) hx hb dX5_child_77 (by decide) ?_
        replace hf := rA_s hf; obtain ⟨j20, hjj20, htj20, hij20, hf⟩ := hf
        replace hf := nm_s hf; obtain ⟨I21, hI21, hf⟩ := hf
        refine x_iast (pc := 78) X V htj20 hij20 hjj20 hI21 dX5_child_78 (fun H locs V => ?_)
        refine lv_aload_n (pc := 79) hx hb dX5_child_79 rfl (lv_at hl 1 rfl) ?_
        refine x_get (pc := 80) X V okX5 ht1 3 (by decide) q1524 (v := va_rf (R x0 3)) rfl dX5_child_80 ?_
        refine x_topr ha12 ?_
        refine lv_iconst (pc := 83) (v := (ii 1)) hx hb dX5_child_83 (by decide) ?_
        refine lv_dup2_11 (pc := 84) hx hb dX5_child_84 rfl rfl ?_
        refine x_iald (pc := 85) X V htj13 hij13 hjj13 dX5_child_85 ?_
        refine lv_iconst (pc := 86) (v := (ii 1)) hx hb dX5_child_86 (by decide) ?_
        refine lv_iadd (pc := 87) hx hb dX5_child_87 ?_
        replace hf := nm_s hf; obtain ⟨I22, hI22, hf⟩ := hf
        refine x_iast (pc := 88) X V htj13 hij13 hjj13 hI22 dX5_child_88 (fun H locs V => ?_)
        refine lv_aload_n (pc := 89) hx hb dX5_child_89 rfl (lv_at hl 1 rfl) ?_
        refine lv_iload_n (pc := 90) hx hb dX5_child_90 rfl (lv_at hl 0 rfl) ?_
        replace hf := b2s hf; obtain ⟨r23, I24, hk_25, hf⟩ := hf
        refine x_callV0 (pc := 91) (As := [.int u14]) (rest := []) X V (mX5_lasting l D dA s0 hk_25) okX5 ht1 q1720 q1722 qs47 q129 q1723 ⟨rfl, hsX5_lasting⟩ ⟨Nat.le_of_ble_eq_true rfl, Nat.le_of_ble_eq_true rfl⟩ rfl hl.1 rfl (Nat.le_of_ble_eq_true rfl) dX5_child_91 ⟨Nat.zero_le _, Nat.zero_le _⟩ (fun H locs V => W.eq (g2 := F0 m 94 ls [.int r23]) rfl ?_)
        cases hf
        exact x_iret (pc := 94) X V hr dX5_child_94
      · replace hf := if_t hf c15
        refine lv_aload_n (pc := 42) hx hb dX5_child_42 rfl (lv_at hl 1 rfl) ?_
        refine lv_bipush (pc := 43) (v := (-5 : Int32)) hx hb dX5_child_43 (by decide) ?_
        replace hf := b2s hf; obtain ⟨r26, I27, hk_28, hf⟩ := hf
        refine x_callV0 (pc := 45) (As := [.int (-5 : Int32)]) (rest := []) X V (mX5_tell l D dA s0 hk_28) okX5 ht1 q1701 q1703 qs45 q129 q1704 ⟨rfl, hsX5_tell⟩ ⟨Nat.le_of_ble_eq_true rfl, Nat.le_of_ble_eq_true rfl⟩ rfl hl.1 rfl (Nat.le_of_ble_eq_true rfl) dX5_child_45 ⟨Nat.zero_le _, Nat.zero_le _⟩ (fun H locs V => W.eq (g2 := F0 m 48 ls [.int r26]) rfl ?_)
        cases hf
        exact x_iret (pc := 48) X V hr dX5_child_48
    · replace hf := if_t hf c11
      refine lv_aload_n (pc := 24) hx hb dX5_child_24 rfl (lv_at hl 0 rfl) ?_
      refine lv_iconst (pc := 25) (v := (-1 : Int32)) hx hb dX5_child_25 (by decide) ?_
      replace hf := b2s hf; obtain ⟨r29, I30, hk_31, hf⟩ := hf
      refine x_callV0 (pc := 26) (As := [.int (-1 : Int32)]) (rest := []) X V (mX5_tell l D dA s0 hk_31) okX5 ht1 q1701 q1703 qs45 q129 q1704 ⟨rfl, hsX5_tell⟩ ⟨Nat.le_of_ble_eq_true rfl, Nat.le_of_ble_eq_true rfl⟩ rfl hl.1 rfl (Nat.le_of_ble_eq_true rfl) dX5_child_26 ⟨Nat.zero_le _, Nat.zero_le _⟩ (fun H locs V => W.eq (g2 := F0 m 29 ls [.int r29]) rfl ?_)
      cases hf
      exact x_iret (pc := 29) X V hr dX5_child_29
theorem mX5_child (l : Launch) (D : va_G) (dA : Nat → ClassId) (s0 : Nat) {T : xT} {N : xT} {Z : Nat} {I : xI} {L : xL} {R : xR} {x0 : Nat} {x1 : Int32} {x2 : Int32} {ro : Int32} {Io : xI} (hf : fX5_child T N I R x0 x1 x2 = some (ro, Io)) : XMet l D dA s0 yX5_child (ws_ yX5_child cX5_child 4 ((some .int))) (2) (45) [.ref x0, .int x1, .int x2] T N Z I L R (some (.int ro)) T N Z Io L R 0 0 :=
  x_start (own := RX5) rfl (by decide) (Nat.le_of_ble_eq_true rfl) (lv := [(0, .ref x0), (1, .int x1), (2, .int x2)]) rfl (fun p e s m below meth c ls X hr hini V hl => wX5_child_e X hr hf V hl)
set_option maxHeartbeats 400000 in
set_option maxRecDepth 100000 in
theorem wX5_isChild_e {p : Program} {l : Launch} {e : Env} {s : State} {m : MethodId} {args : Array Value} {below : List Frame} {meth : Method} {c : Code} {D : va_G} {dA : Nat → ClassId} {s0 : Nat} {T : xT} {N : xT} {Z : Nat} {I : xI} {L : xL} {R : xR} {H : Heap} {locs : List Loc} {ls : Array Slot} {x0 : Nat} {x1 : Int32} {ro : Int32} (X : Cx D dA s0 p m c cX5_isChild 2 s args RX5 meth) (hr : meth.sig.returnType = (some .boolean)) (hf : fX5_isChild T N I R x0 x1 = some ro) (V : Iv D dA s0 s T N Z I L R H locs) (hl : lv_has ls 2 [(0, .ref x0), (1, .int x1)]) : W p l e { frames := 1, cells := 0, slots := 0, locals := 25 } s m args below meth c H locs 0 0 (MQ below (xQ D dA s0 (some (.int ro)) T N Z I L R) args s 0 0 (fun q => s0 ≤ q)) (F0 m 0 ls []) := by
  have hx := X.1.1
  have hb := X.1.2.1
  unfold fX5_isChild at hf
  refine lv_iload_n (pc := 0) hx hb dX5_isChild_0 rfl (lv_at hl 1 rfl) ?_
  refine lv_i2l (pc := 1) hx hb dX5_isChild_1 rfl ?_
  refine lv_lconst (pc := 2) (v := (jj 0)) hx hb dX5_isChild_2 (by decide) ?_
  refine lv_aload_n (pc := 3) hx hb dX5_isChild_3 rfl (lv_at hl 0 rfl) ?_
  replace hf := tg_s hf; obtain ⟨ht1, hf⟩ := hf
  replace hf := bs hf; obtain ⟨a2, ha2, hf⟩ := hf
  refine x_get (pc := 4) X V okX5 ht1 3 (by decide) q1524 (v := va_rf (R x0 3)) rfl dX5_isChild_4 ?_
  refine x_topr ha2 ?_
  refine lv_iconst (pc := 7) (v := (ii 1)) hx hb dX5_isChild_7 (by decide) ?_
  replace hf := rA_s hf; obtain ⟨j3, hjj3, htj3, hij3, hf⟩ := hf
  refine x_iald (pc := 8) X V htj3 hij3 hjj3 dX5_isChild_8 ?_
  refine lv_i2l (pc := 9) hx hb dX5_isChild_9 rfl ?_
  refine lv_lconst (pc := 10) (v := (jj 1)) hx hb dX5_isChild_10 (by decide) ?_
  refine lv_lsub (pc := 11) hx hb dX5_isChild_11 ?_
  replace hf := bs hf; obtain ⟨r4, hk_5, hf⟩ := hf
  refine x_callS0 (pc := 12) (As := [.long ((x1).toInt64), .long (jj 0), .long ((((I a2 j3)).toInt64) - (jj 1))]) (rest := []) X V (mX5_in l D dA s0 hk_5) q1713 q1714 q129 q1715 hsX5_in ⟨Nat.le_of_ble_eq_true rfl, Nat.le_of_ble_eq_true rfl⟩ rfl hl.1 rfl (Nat.le_of_ble_eq_true rfl) dX5_isChild_12 ⟨Nat.zero_le _, Nat.zero_le _⟩ (fun H locs V => W.eq (g2 := F0 m 15 ls [.int r4]) rfl ?_)
  replace hf := chk_s hf; obtain ⟨hz6, hf⟩ := hf
  cases hf
  exact x_zret (pc := 15) X V hr hz6 dX5_isChild_15
theorem mX5_isChild (l : Launch) (D : va_G) (dA : Nat → ClassId) (s0 : Nat) {T : xT} {N : xT} {Z : Nat} {I : xI} {L : xL} {R : xR} {x0 : Nat} {x1 : Int32} {ro : Int32} (hf : fX5_isChild T N I R x0 x1 = some ro) : XMet l D dA s0 yX5_isChild (ws_ yX5_isChild cX5_isChild 2 ((some .boolean))) (1) (25) [.ref x0, .int x1] T N Z I L R (some (.int ro)) T N Z I L R 0 0 :=
  x_start (own := RX5) rfl (by decide) (Nat.le_of_ble_eq_true rfl) (lv := [(0, .ref x0), (1, .int x1)]) rfl (fun p e s m below meth c ls X hr hini V hl => wX5_isChild_e X hr hf V hl)
set_option maxHeartbeats 400000 in
set_option maxRecDepth 100000 in
theorem wX5_reckon_b104 {p : Program} {l : Launch} {e : Env} {s : State} {m : MethodId} {args : Array Value} {below : List Frame} {meth : Method} {c : Code} {D : va_G} {dA : Nat → ClassId} {s0 : Nat} {T : xT} {N : xT} {Z : Nat} {I : xI} {L : xL} {R : xR} {H : Heap} {locs : List Loc} {ls : Array Slot}  {x0 : Nat} {x2 : Int64} {x4 : Int64} {z0 : Nat} {z1 : Int32} {ro : Int64} {Io : xI} (X : Cx D dA s0 p m c cX5_reckon 6 s args RX5 meth) (hr : meth.sig.returnType = (some .long))   (hf : fX5_reckon_b104 T I x0 x2 x4 z0 z1 = some (ro, Io)) (V : Iv D dA s0 s T N Z I L R H locs) (hl : lv_has ls 6 [(0, .ref x0), (2, .long x2), (4, .long x4)]) : W p l e { frames := 0, cells := 0, slots := 0, locals := 0 } s m args below meth c H locs 0 0 (MQ below (xQ D dA s0 (some (.long ro)) T N Z Io L R) args s 0 0 (fun q => s0 ≤ q)) (F0 m 104 ls [.int z1, .ref z0]) := by
  have hx := X.1.1
  have hb := X.1.2.1
  unfold fX5_reckon_b104 at hf
  replace hf := tg_s hf; obtain ⟨ht1, hf⟩ := hf
  replace hf := chk_s hf; obtain ⟨hz2, hf⟩ := hf
  replace hf := nm_s hf; obtain ⟨I3, hI3, hf⟩ := hf
  refine x_puti (pc := 104) X V okX5 (by decide) ht1 38 (by decide) q1559 (Or.inl rfl) hI3 (fun _ _ _ => rfl) (zb_n hz2) (zb_f hz2) dX5_reckon_104 (fun H locs V => ?_)
  refine lv_aload_n (pc := 107) hx hb dX5_reckon_107 rfl (lv_at hl 0 rfl) ?_
  replace hf := tg_s hf; obtain ⟨ht4, hf⟩ := hf
  refine x_get (pc := 108) X V okX5 ht4 38 (by decide) q1559 (v := .int (I3 x0 38)) rfl dX5_reckon_108 ?_
  refine lv_if_eq (pc := 111) (tgt := 118) hx hb dX5_reckon_111 (by decide) (fun c5 => ?_) (fun c5 => ?_)
  · replace hf := if_t hf c5
    refine lv_lload_n (pc := 118) hx hb dX5_reckon_118 rfl (lv_at hl 1 rfl) ?_
    refine lv_lload (pc := 119) hx hb dX5_reckon_119 (lv_at hl 2 rfl) ?_
    replace hf := chk_s hf; obtain ⟨hc6, hf⟩ := hf
    refine lv_lrem (pc := 121) hx hb dX5_reckon_121 (of_decide_eq_true hc6) ?_
    cases hf
    exact x_lret (pc := 122) X V hr dX5_reckon_122
  · replace hf := if_f hf c5
    refine lv_lconst (pc := 114) (v := (jj 0)) hx hb dX5_reckon_114 (by decide) ?_
    refine lv_goto (pc := 115) (tgt := 122) hx hb dX5_reckon_115 (by decide) ?_
    cases hf
    exact x_lret (pc := 122) X V hr dX5_reckon_122
set_option maxHeartbeats 400000 in
set_option maxRecDepth 100000 in
theorem wX5_reckon_b72 {p : Program} {l : Launch} {e : Env} {s : State} {m : MethodId} {args : Array Value} {below : List Frame} {meth : Method} {c : Code} {D : va_G} {dA : Nat → ClassId} {s0 : Nat} {T : xT} {N : xT} {Z : Nat} {I : xI} {L : xL} {R : xR} {H : Heap} {locs : List Loc} {ls : Array Slot}  {x0 : Nat} {x2 : Int64} {x4 : Int64} {z0 : Nat} {z1 : Int32} {ro : Int64} {Io : xI} (X : Cx D dA s0 p m c cX5_reckon 6 s args RX5 meth) (hr : meth.sig.returnType = (some .long))   (hf : fX5_reckon_b72 T I x0 x2 x4 z0 z1 = some (ro, Io)) (V : Iv D dA s0 s T N Z I L R H locs) (hl : lv_has ls 6 [(0, .ref x0), (2, .long x2), (4, .long x4)]) : W p l e { frames := 0, cells := 0, slots := 0, locals := 0 } s m args below meth c H locs 0 0 (MQ below (xQ D dA s0 (some (.long ro)) T N Z Io L R) args s 0 0 (fun q => s0 ≤ q)) (F0 m 72 ls [.int z1, .ref z0]) := by
  have hx := X.1.1
  have hb := X.1.2.1
  unfold fX5_reckon_b72 at hf
  replace hf := tg_s hf; obtain ⟨ht1, hf⟩ := hf
  replace hf := chk_s hf; obtain ⟨hz2, hf⟩ := hf
  replace hf := nm_s hf; obtain ⟨I3, hI3, hf⟩ := hf
  refine x_puti (pc := 72) X V okX5 (by decide) ht1 38 (by decide) q1559 (Or.inl rfl) hI3 (fun _ _ _ => rfl) (zb_n hz2) (zb_f hz2) dX5_reckon_72 (fun H locs V => ?_)
  refine lv_aload_n (pc := 75) hx hb dX5_reckon_75 rfl (lv_at hl 0 rfl) ?_
  replace hf := tg_s hf; obtain ⟨ht4, hf⟩ := hf
  refine x_get (pc := 76) X V okX5 ht4 38 (by decide) q1559 (v := .int (I3 x0 38)) rfl dX5_reckon_76 ?_
  refine lv_if_eq (pc := 79) (tgt := 86) hx hb dX5_reckon_79 (by decide) (fun c5 => ?_) (fun c5 => ?_)
  · replace hf := if_t hf c5
    refine lv_lload_n (pc := 86) hx hb dX5_reckon_86 rfl (lv_at hl 1 rfl) ?_
    refine lv_lload (pc := 87) hx hb dX5_reckon_87 (lv_at hl 2 rfl) ?_
    replace hf := chk_s hf; obtain ⟨hc6, hf⟩ := hf
    refine lv_ldiv (pc := 89) hx hb dX5_reckon_89 (of_decide_eq_true hc6) ?_
    cases hf
    exact x_lret (pc := 90) X V hr dX5_reckon_90
  · replace hf := if_f hf c5
    refine lv_lconst (pc := 82) (v := (jj 0)) hx hb dX5_reckon_82 (by decide) ?_
    refine lv_goto (pc := 83) (tgt := 90) hx hb dX5_reckon_83 (by decide) ?_
    cases hf
    exact x_lret (pc := 90) X V hr dX5_reckon_90
set_option maxHeartbeats 400000 in
set_option maxRecDepth 100000 in
theorem wX5_reckon_e {p : Program} {l : Launch} {e : Env} {s : State} {m : MethodId} {args : Array Value} {below : List Frame} {meth : Method} {c : Code} {D : va_G} {dA : Nat → ClassId} {s0 : Nat} {T : xT} {N : xT} {Z : Nat} {I : xI} {L : xL} {R : xR} {H : Heap} {locs : List Loc} {ls : Array Slot} {x0 : Nat} {x1 : Int32} {x2 : Int64} {x4 : Int64} {ro : Int64} {Io : xI} (X : Cx D dA s0 p m c cX5_reckon 6 s args RX5 meth) (hr : meth.sig.returnType = (some .long)) (hf : fX5_reckon T I x0 x1 x2 x4 = some (ro, Io)) (V : Iv D dA s0 s T N Z I L R H locs) (hl : lv_has ls 6 [(0, .ref x0), (1, .int x1), (2, .long x2), (4, .long x4)]) : W p l e { frames := 0, cells := 0, slots := 0, locals := 0 } s m args below meth c H locs 0 0 (MQ below (xQ D dA s0 (some (.long ro)) T N Z Io L R) args s 0 0 (fun q => s0 ≤ q)) (F0 m 0 ls []) := by
  have hx := X.1.1
  have hb := X.1.2.1
  unfold fX5_reckon at hf
  refine lv_iload_n (pc := 0) hx hb dX5_reckon_0 rfl (lv_at hl 1 rfl) ?_
  by_cases c1 : x1 = (ii 20)
  · replace hf := if_t hf c1
    refine x_tswIn (pc := 1) (tgt := 44) (off := 43) hx hb c1 dX5_reckon_1 (by decide) (by decide) (by decide) (by decide) ?_
    refine lv_lload_n (pc := 44) hx hb dX5_reckon_44 rfl (lv_at hl 2 rfl) ?_
    refine lv_lload (pc := 45) hx hb dX5_reckon_45 (lv_at hl 3 rfl) ?_
    refine lv_ladd (pc := 47) hx hb dX5_reckon_47 ?_
    cases hf
    exact x_lret (pc := 48) X V hr dX5_reckon_48
  replace hf := if_f hf c1
  by_cases c2 : x1 = (ii 21)
  · replace hf := if_t hf c2
    refine x_tswIn (pc := 1) (tgt := 49) (off := 48) hx hb c2 dX5_reckon_1 (by decide) (by decide) (by decide) (by decide) ?_
    refine lv_lload_n (pc := 49) hx hb dX5_reckon_49 rfl (lv_at hl 2 rfl) ?_
    refine lv_lload (pc := 50) hx hb dX5_reckon_50 (lv_at hl 3 rfl) ?_
    refine lv_lsub (pc := 52) hx hb dX5_reckon_52 ?_
    cases hf
    exact x_lret (pc := 53) X V hr dX5_reckon_53
  replace hf := if_f hf c2
  by_cases c3 : x1 = (ii 22)
  · replace hf := if_t hf c3
    refine x_tswIn (pc := 1) (tgt := 54) (off := 53) hx hb c3 dX5_reckon_1 (by decide) (by decide) (by decide) (by decide) ?_
    refine lv_lload_n (pc := 54) hx hb dX5_reckon_54 rfl (lv_at hl 2 rfl) ?_
    refine lv_lload (pc := 55) hx hb dX5_reckon_55 (lv_at hl 3 rfl) ?_
    refine lv_lmul (pc := 57) hx hb dX5_reckon_57 ?_
    cases hf
    exact x_lret (pc := 58) X V hr dX5_reckon_58
  replace hf := if_f hf c3
  by_cases c4 : x1 = (ii 23)
  · replace hf := if_t hf c4
    refine x_tswIn (pc := 1) (tgt := 59) (off := 58) hx hb c4 dX5_reckon_1 (by decide) (by decide) (by decide) (by decide) ?_
    refine lv_aload_n (pc := 59) hx hb dX5_reckon_59 rfl (lv_at hl 0 rfl) ?_
    refine lv_lload (pc := 60) hx hb dX5_reckon_60 (lv_at hl 3 rfl) ?_
    refine lv_lconst (pc := 62) (v := (jj 0)) hx hb dX5_reckon_62 (by decide) ?_
    refine lc_ne (pc := 63) (tgt := 71) hx hb dX5_reckon_63 dX5_reckon_64 (by decide) (fun c5 => ?_) (fun c5 => ?_)
    · replace hf := if_f hf c5
      refine lv_iconst (pc := 71) (v := (ii 0)) hx hb dX5_reckon_71 (by decide) ?_
      exact wX5_reckon_b72 X hr hf V (lv_sub hl [0, 2, 3] rfl)
    · replace hf := if_t hf c5
      refine lv_iconst (pc := 67) (v := (ii 1)) hx hb dX5_reckon_67 (by decide) ?_
      refine lv_goto (pc := 68) (tgt := 72) hx hb dX5_reckon_68 (by decide) ?_
      exact wX5_reckon_b72 X hr hf V (lv_sub hl [0, 2, 3] rfl)
  replace hf := if_f hf c4
  by_cases c6 : x1 = (ii 24)
  · replace hf := if_t hf c6
    refine x_tswIn (pc := 1) (tgt := 91) (off := 90) hx hb c6 dX5_reckon_1 (by decide) (by decide) (by decide) (by decide) ?_
    refine lv_aload_n (pc := 91) hx hb dX5_reckon_91 rfl (lv_at hl 0 rfl) ?_
    refine lv_lload (pc := 92) hx hb dX5_reckon_92 (lv_at hl 3 rfl) ?_
    refine lv_lconst (pc := 94) (v := (jj 0)) hx hb dX5_reckon_94 (by decide) ?_
    refine lc_ne (pc := 95) (tgt := 103) hx hb dX5_reckon_95 dX5_reckon_96 (by decide) (fun c7 => ?_) (fun c7 => ?_)
    · replace hf := if_f hf c7
      refine lv_iconst (pc := 103) (v := (ii 0)) hx hb dX5_reckon_103 (by decide) ?_
      exact wX5_reckon_b104 X hr hf V (lv_sub hl [0, 2, 3] rfl)
    · replace hf := if_t hf c7
      refine lv_iconst (pc := 99) (v := (ii 1)) hx hb dX5_reckon_99 (by decide) ?_
      refine lv_goto (pc := 100) (tgt := 104) hx hb dX5_reckon_100 (by decide) ?_
      exact wX5_reckon_b104 X hr hf V (lv_sub hl [0, 2, 3] rfl)
  replace hf := if_f hf c6
  by_cases c8 : x1 = (ii 25)
  · replace hf := if_t hf c8
    refine x_tswIn (pc := 1) (tgt := 123) (off := 122) hx hb c8 dX5_reckon_1 (by decide) (by decide) (by decide) (by decide) ?_
    refine lv_lload_n (pc := 123) hx hb dX5_reckon_123 rfl (lv_at hl 2 rfl) ?_
    refine lv_lload (pc := 124) hx hb dX5_reckon_124 (lv_at hl 3 rfl) ?_
    refine lc_ge (pc := 126) (tgt := 134) hx hb dX5_reckon_126 dX5_reckon_127 (by decide) (fun c9 => ?_) (fun c9 => ?_)
    · replace hf := if_t hf c9
      refine lv_lconst (pc := 134) (v := (jj 0)) hx hb dX5_reckon_134 (by decide) ?_
      cases hf
      exact x_lret (pc := 135) X V hr dX5_reckon_135
    · replace hf := if_f hf c9
      refine lv_lconst (pc := 130) (v := (jj 1)) hx hb dX5_reckon_130 (by decide) ?_
      refine lv_goto (pc := 131) (tgt := 135) hx hb dX5_reckon_131 (by decide) ?_
      cases hf
      exact x_lret (pc := 135) X V hr dX5_reckon_135
  replace hf := if_f hf c8
  by_cases c10 : x1 = (ii 26)
  · replace hf := if_t hf c10
    refine x_tswIn (pc := 1) (tgt := 136) (off := 135) hx hb c10 dX5_reckon_1 (by decide) (by decide) (by decide) (by decide) ?_
    refine lv_lload_n (pc := 136) hx hb dX5_reckon_136 rfl (lv_at hl 2 rfl) ?_
    refine lv_lload (pc := 137) hx hb dX5_reckon_137 (lv_at hl 3 rfl) ?_
    refine lc_le (pc := 139) (tgt := 147) hx hb dX5_reckon_139 dX5_reckon_140 (by decide) (fun c11 => ?_) (fun c11 => ?_)
    · replace hf := if_t hf c11
      refine lv_lconst (pc := 147) (v := (jj 0)) hx hb dX5_reckon_147 (by decide) ?_
      cases hf
      exact x_lret (pc := 148) X V hr dX5_reckon_148
    · replace hf := if_f hf c11
      refine lv_lconst (pc := 143) (v := (jj 1)) hx hb dX5_reckon_143 (by decide) ?_
      refine lv_goto (pc := 144) (tgt := 148) hx hb dX5_reckon_144 (by decide) ?_
      cases hf
      exact x_lret (pc := 148) X V hr dX5_reckon_148
  replace hf := if_f hf c10
  refine lv_tableOut (pc := 1) (tgt := 149) hx hb dX5_reckon_1 (by have qc1 := lv_neT c1 (a := 20) (by decide); have qc2 := lv_neT c2 (a := 21) (by decide); have qc3 := lv_neT c3 (a := 22) (by decide); have qc4 := lv_neT c4 (a := 23) (by decide); have qc6 := lv_neT c6 (a := 24) (by decide); have qc8 := lv_neT c8 (a := 25) (by decide); have qc10 := lv_neT c10 (a := 26) (by decide); omega) (by decide) ?_
  refine lv_lload_n (pc := 149) hx hb dX5_reckon_149 rfl (lv_at hl 2 rfl) ?_
  refine lv_lload (pc := 150) hx hb dX5_reckon_150 (lv_at hl 3 rfl) ?_
  refine lc_ne (pc := 152) (tgt := 160) hx hb dX5_reckon_152 dX5_reckon_153 (by decide) (fun c12 => ?_) (fun c12 => ?_)
  · replace hf := if_f hf c12
    refine lv_lconst (pc := 160) (v := (jj 0)) hx hb dX5_reckon_160 (by decide) ?_
    cases hf
    exact x_lret (pc := 161) X V hr dX5_reckon_161
  · replace hf := if_t hf c12
    refine lv_lconst (pc := 156) (v := (jj 1)) hx hb dX5_reckon_156 (by decide) ?_
    refine lv_goto (pc := 157) (tgt := 161) hx hb dX5_reckon_157 (by decide) ?_
    cases hf
    exact x_lret (pc := 161) X V hr dX5_reckon_161
theorem mX5_reckon (l : Launch) (D : va_G) (dA : Nat → ClassId) (s0 : Nat) {T : xT} {N : xT} {Z : Nat} {I : xI} {L : xL} {R : xR} {x0 : Nat} {x1 : Int32} {x2 : Int64} {x4 : Int64} {ro : Int64} {Io : xI} (hf : fX5_reckon T I x0 x1 x2 x4 = some (ro, Io)) : XMet l D dA s0 yX5_reckon (ws_ yX5_reckon cX5_reckon 6 ((some .long))) (0) (0) [.ref x0, .int x1, .long x2, .long x4] T N Z I L R (some (.long ro)) T N Z Io L R 0 0 :=
  x_start (own := RX5) rfl (by decide) (Nat.le_of_ble_eq_true rfl) (lv := [(0, .ref x0), (1, .int x1), (2, .long x2), (4, .long x4)]) rfl (fun p e s m below meth c ls X hr hini V hl => wX5_reckon_e X hr hf V hl)
set_option maxHeartbeats 400000 in
set_option maxRecDepth 100000 in
theorem wX5_reckonAll_b366 {nf : Nat} {p : Program} {l : Launch} {e : Env} {s : State} {m : MethodId} {args : Array Value} {below : List Frame} {meth : Method} {c : Code} {D : va_G} {dA : Nat → ClassId} {s0 : Nat} {T : xT} {N : xT} {Z : Nat} {I : xI} {L : xL} {R : xR} {H : Heap} {locs : List Loc} {ls : Array Slot}  {x0 : Nat} {x3 : Int32} {Io : xI} {Lo : xL} (X : Cx D dA s0 p m c cX5_reckonAll 7 s args RX5 meth) (hr : meth.sig.returnType = none)   (hf : fX5_reckonAll_b366 nf T N I L R x0 x3 = some (Io, Lo)) (V : Iv D dA s0 s T N Z I L R H locs) (hl : lv_has ls 7 [(0, .ref x0), (3, .int x3)]) : W p l e { frames := 2, cells := 0, slots := 0, locals := 46 } s m args below meth c H locs 0 0 (MQ below (xQ D dA s0 none T N Z Io Lo R) args s 0 0 (fun q => s0 ≤ q)) (F0 m 366 ls []) := by
  have hx := X.1.1
  have hb := X.1.2.1
  unfold fX5_reckonAll_b366 at hf
  refine lv_aload_n (pc := 366) hx hb dX5_reckonAll_366 rfl (lv_at hl 0 rfl) ?_
  refine lv_iload_n (pc := 367) hx hb dX5_reckonAll_367 rfl (lv_at hl 1 rfl) ?_
  refine lv_if_le (pc := 368) (tgt := 380) hx hb dX5_reckonAll_368 (by decide) (fun c1 => ?_) (fun c1 => ?_)
  · replace hf := if_t hf c1
    refine lv_lconst (pc := 380) (v := (jj 0)) hx hb dX5_reckonAll_380 (by decide) ?_
    replace hf := tg_s hf; obtain ⟨ht2, hf⟩ := hf
    replace hf := nm_s hf; obtain ⟨L3, hL3, hf⟩ := hf
    refine x_putl (pc := 381) X V okX5 (by decide) ht2 39 (by decide) q1560 (Or.inl rfl) hL3 (fun _ _ _ => rfl) rfl rfl dX5_reckonAll_381 (fun H locs V => ?_)
    cases hf
    exact x_vret (pc := 384) X V hr dX5_reckonAll_384
  · replace hf := if_f hf c1
    refine lv_aload_n (pc := 371) hx hb dX5_reckonAll_371 rfl (lv_at hl 0 rfl) ?_
    replace hf := tg_s hf; obtain ⟨ht4, hf⟩ := hf
    replace hf := bs hf; obtain ⟨a5, ha5, hf⟩ := hf
    refine x_get (pc := 372) X V okX5 ht4 37 (by decide) q1558 (v := va_rf (R x0 37)) rfl dX5_reckonAll_372 ?_
    refine x_topr ha5 ?_
    refine lv_iconst (pc := 375) (v := (ii 0)) hx hb dX5_reckonAll_375 (by decide) ?_
    replace hf := rA_s hf; obtain ⟨j6, hjj6, htj6, hij6, hf⟩ := hf
    refine x_lald (pc := 376) X V htj6 hij6 hjj6 dX5_reckonAll_376 ?_
    refine lv_goto (pc := 377) (tgt := 381) hx hb dX5_reckonAll_377 (by decide) ?_
    replace hf := nm_s hf; obtain ⟨L7, hL7, hf⟩ := hf
    refine x_putl (pc := 381) X V okX5 (by decide) ht4 39 (by decide) q1560 (Or.inl rfl) hL7 (fun _ _ _ => rfl) rfl rfl dX5_reckonAll_381 (fun H locs V => ?_)
    cases hf
    exact x_vret (pc := 384) X V hr dX5_reckonAll_384
set_option maxHeartbeats 400000 in
set_option maxRecDepth 100000 in
theorem wX5_reckonAll_b349 {nf : Nat} {p : Program} {l : Launch} {e : Env} {s : State} {m : MethodId} {args : Array Value} {below : List Frame} {meth : Method} {c : Code} {D : va_G} {dA : Nat → ClassId} {s0 : Nat} {T : xT} {N : xT} {Z : Nat} {I : xI} {L : xL} {R : xR} {H : Heap} {locs : List Loc} {ls : Array Slot} {kk10 : xI → xL → Nat → Int32 → Int32 → Int32 → Option (xI × xL)} {x0 : Nat} {x2 : Int32} {x3 : Int32} {x4 : Int32} {x6 : Int32} {z0 : Int64} {z1 : Int64} {Io : xI} {Lo : xL} (X : Cx D dA s0 p m c cX5_reckonAll 7 s args RX5 meth) (hr : meth.sig.returnType = none) (hk10 : ∀ {I : xI} {L : xL} {x0 : Nat} {x2 : Int32} {x3 : Int32} {x4 : Int32} {H : Heap} {locs : List Loc} {ls : Array Slot} , kk10 I L x0 x2 x3 x4 = some (Io, Lo) → Iv D dA s0 s T N Z I L R H locs → lv_has ls 7 [(0, .ref x0), (2, .int x2), (3, .int x3), (4, .int x4)] → W p l e { frames := 2, cells := 0, slots := 0, locals := 46 } s m args below meth c H locs 0 0 (MQ below (xQ D dA s0 none T N Z Io Lo R) args s 0 0 (fun q => s0 ≤ q)) (F0 m 10 ls []))  (hf : fX5_reckonAll_b349 nf kk10 T N I L R x0 x2 x3 x4 x6 z0 z1 = some (Io, Lo)) (V : Iv D dA s0 s T N Z I L R H locs) (hl : lv_has ls 7 [(0, .ref x0), (2, .int x2), (3, .int x3), (4, .int x4), (6, .int x6)]) : W p l e { frames := 2, cells := 0, slots := 0, locals := 46 } s m args below meth c H locs 0 0 (MQ below (xQ D dA s0 none T N Z Io Lo R) args s 0 0 (fun q => s0 ≤ q)) (F0 m 349 ls [.long z1, .long z0]) := by
  have hx := X.1.1
  have hb := X.1.2.1
  unfold fX5_reckonAll_b349 at hf
  refine lc_ne (pc := 349) (tgt := 360) hx hb dX5_reckonAll_349 dX5_reckonAll_350 (by decide) (fun c1 => ?_) (fun c1 => ?_)
  · replace hf := if_f hf c1
    replace hf := nm_s hf; obtain ⟨u2, hu2, hf⟩ := hf
    refine lv_iinc (pc := 360) (v := u2) (lv' := [(3, .int u2), (0, .ref x0), (2, .int x2), (4, .int x4), (6, .int x6)]) hx hb dX5_reckonAll_360 hl (k := 2) rfl (by rw [hu2]; rfl) (by decide) rfl (fun ls hl => ?_)
    refine lv_goto (pc := 363) (tgt := 10) hx hb dX5_reckonAll_363 (by decide) ?_
    exact hk10 hf V (lv_sub hl [1, 2, 0, 3] rfl)
  · replace hf := if_t hf c1
    refine lv_iload (pc := 353) hx hb dX5_reckonAll_353 (lv_at hl 4 rfl) ?_
    refine lv_istore (pc := 355) (lv' := [(4, .int x6), (0, .ref x0), (2, .int x2), (3, .int x3), (6, .int x6)]) hx hb dX5_reckonAll_355 hl (by decide) rfl (fun ls hl => ?_)
    refine lv_goto (pc := 357) (tgt := 363) hx hb dX5_reckonAll_357 (by decide) ?_
    refine lv_goto (pc := 363) (tgt := 10) hx hb dX5_reckonAll_363 (by decide) ?_
    exact hk10 hf V (lv_sub hl [1, 2, 3, 0] rfl)
set_option maxHeartbeats 400000 in
set_option maxRecDepth 100000 in
theorem wX5_reckonAll_b95 {nf : Nat} {p : Program} {l : Launch} {e : Env} {s : State} {m : MethodId} {args : Array Value} {below : List Frame} {meth : Method} {c : Code} {D : va_G} {dA : Nat → ClassId} {s0 : Nat} {T : xT} {N : xT} {Z : Nat} {I : xI} {L : xL} {R : xR} {H : Heap} {locs : List Loc} {ls : Array Slot} {kk10 : xI → xL → Nat → Int32 → Int32 → Int32 → Option (xI × xL)} {x0 : Nat} {x2 : Int32} {x3 : Int32} {x4 : Int32} {x5 : Int32} {z0 : Int32} {Io : xI} {Lo : xL} (X : Cx D dA s0 p m c cX5_reckonAll 7 s args RX5 meth) (hr : meth.sig.returnType = none) (hk10 : ∀ {I : xI} {L : xL} {x0 : Nat} {x2 : Int32} {x3 : Int32} {x4 : Int32} {H : Heap} {locs : List Loc} {ls : Array Slot} , kk10 I L x0 x2 x3 x4 = some (Io, Lo) → Iv D dA s0 s T N Z I L R H locs → lv_has ls 7 [(0, .ref x0), (2, .int x2), (3, .int x3), (4, .int x4)] → W p l e { frames := 2, cells := 0, slots := 0, locals := 46 } s m args below meth c H locs 0 0 (MQ below (xQ D dA s0 none T N Z Io Lo R) args s 0 0 (fun q => s0 ≤ q)) (F0 m 10 ls []))  (hf : fX5_reckonAll_b95 nf kk10 T N I L R x0 x2 x3 x4 x5 z0 = some (Io, Lo)) (V : Iv D dA s0 s T N Z I L R H locs) (hl : lv_has ls 7 [(0, .ref x0), (2, .int x2), (3, .int x3), (4, .int x4), (5, .int x5)]) : W p l e { frames := 2, cells := 0, slots := 0, locals := 46 } s m args below meth c H locs 0 0 (MQ below (xQ D dA s0 none T N Z Io Lo R) args s 0 0 (fun q => s0 ≤ q)) (F0 m 95 ls [.int z0]) := by
  have hx := X.1.1
  have hb := X.1.2.1
  unfold fX5_reckonAll_b95 at hf
  refine lv_istore (pc := 95) (lv' := [(6, .int z0), (0, .ref x0), (2, .int x2), (3, .int x3), (4, .int x4), (5, .int x5)]) hx hb dX5_reckonAll_95 hl (by decide) rfl (fun ls hl => ?_)
  replace hf := nm_s hf; obtain ⟨u1, hu1, hf⟩ := hf
  refine lv_iinc (pc := 97) (v := u1) (lv' := [(4, .int u1), (6, .int z0), (0, .ref x0), (2, .int x2), (3, .int x3), (5, .int x5)]) hx hb dX5_reckonAll_97 hl (k := 4) rfl (by rw [hu1]; rfl) (by decide) rfl (fun ls hl => ?_)
  refine lv_iload (pc := 100) hx hb dX5_reckonAll_100 (lv_at hl 5 rfl) ?_
  refine lv_bipush (pc := 102) (v := (ii 20)) hx hb dX5_reckonAll_102 (by decide) ?_
  refine lv_icmp_ge (pc := 104) (tgt := 224) hx hb dX5_reckonAll_104 (by decide) (fun c2 => ?_) (fun c2 => ?_)
  · replace hf := if_t hf c2
    refine lv_iload (pc := 224) hx hb dX5_reckonAll_224 (lv_at hl 5 rfl) ?_
    refine lv_bipush (pc := 226) (v := (ii 28)) hx hb dX5_reckonAll_226 (by decide) ?_
    refine lv_icmp_ge (pc := 228) (tgt := 301) hx hb dX5_reckonAll_228 (by decide) (fun c3 => ?_) (fun c3 => ?_)
    · replace hf := if_t hf c3
      refine lv_iload (pc := 301) hx hb dX5_reckonAll_301 (lv_at hl 5 rfl) ?_
      refine lv_bipush (pc := 303) (v := (ii 28)) hx hb dX5_reckonAll_303 (by decide) ?_
      refine lv_icmp_ne (pc := 305) (tgt := 329) hx hb dX5_reckonAll_305 (by decide) (fun c4 => ?_) (fun c4 => ?_)
      · replace hf := if_f hf c4
        refine lv_aload_n (pc := 329) hx hb dX5_reckonAll_329 rfl (lv_at hl 2 rfl) ?_
        replace hf := tg_s hf; obtain ⟨ht5, hf⟩ := hf
        replace hf := bs hf; obtain ⟨a6, ha6, hf⟩ := hf
        refine x_get (pc := 330) X V okX5 ht5 37 (by decide) q1558 (v := va_rf (R x0 37)) rfl dX5_reckonAll_330 ?_
        refine x_topr ha6 ?_
        refine lv_iload_n (pc := 333) hx hb dX5_reckonAll_333 rfl (lv_at hl 4 rfl) ?_
        refine lv_iconst (pc := 334) (v := (ii 1)) hx hb dX5_reckonAll_334 (by decide) ?_
        refine lv_isub (pc := 335) hx hb dX5_reckonAll_335 ?_
        replace hf := rA_s hf; obtain ⟨j7, hjj7, htj7, hij7, hf⟩ := hf
        refine x_lald (pc := 336) X V htj7 hij7 hjj7 dX5_reckonAll_336 ?_
        refine lv_iload (pc := 337) hx hb dX5_reckonAll_337 (lv_at hl 5 rfl) ?_
        refine lv_bipush (pc := 339) (v := (ii 29)) hx hb dX5_reckonAll_339 (by decide) ?_
        refine lv_icmp_ne (pc := 341) (tgt := 348) hx hb dX5_reckonAll_341 (by decide) (fun c8 => ?_) (fun c8 => ?_)
        · replace hf := if_f hf c8
          refine lv_lconst (pc := 348) (v := (jj 1)) hx hb dX5_reckonAll_348 (by decide) ?_
          exact wX5_reckonAll_b349 X hr hk10 hf V (lv_sub hl [2, 3, 4, 0, 1] rfl)
        · replace hf := if_t hf c8
          refine lv_lconst (pc := 344) (v := (jj 0)) hx hb dX5_reckonAll_344 (by decide) ?_
          refine lv_goto (pc := 345) (tgt := 349) hx hb dX5_reckonAll_345 (by decide) ?_
          exact wX5_reckonAll_b349 X hr hk10 hf V (lv_sub hl [2, 3, 4, 0, 1] rfl)
      · replace hf := if_t hf c4
        refine lv_aload_n (pc := 308) hx hb dX5_reckonAll_308 rfl (lv_at hl 2 rfl) ?_
        replace hf := tg_s hf; obtain ⟨ht9, hf⟩ := hf
        replace hf := bs hf; obtain ⟨a10, ha10, hf⟩ := hf
        refine x_get (pc := 309) X V okX5 ht9 37 (by decide) q1558 (v := va_rf (R x0 37)) rfl dX5_reckonAll_309 ?_
        refine x_topr ha10 ?_
        refine lv_iload_n (pc := 312) hx hb dX5_reckonAll_312 rfl (lv_at hl 4 rfl) ?_
        refine lv_iconst (pc := 313) (v := (ii 1)) hx hb dX5_reckonAll_313 (by decide) ?_
        refine lv_isub (pc := 314) hx hb dX5_reckonAll_314 ?_
        refine lv_lconst (pc := 315) (v := (jj 1)) hx hb dX5_reckonAll_315 (by decide) ?_
        refine lv_aload_n (pc := 316) hx hb dX5_reckonAll_316 rfl (lv_at hl 2 rfl) ?_
        refine x_get (pc := 317) X V okX5 ht9 37 (by decide) q1558 (v := va_rf (R x0 37)) rfl dX5_reckonAll_317 ?_
        refine x_topr ha10 ?_
        refine lv_iload_n (pc := 320) hx hb dX5_reckonAll_320 rfl (lv_at hl 4 rfl) ?_
        refine lv_iconst (pc := 321) (v := (ii 1)) hx hb dX5_reckonAll_321 (by decide) ?_
        refine lv_isub (pc := 322) hx hb dX5_reckonAll_322 ?_
        replace hf := rA_s hf; obtain ⟨j11, hjj11, htj11, hij11, hf⟩ := hf
        refine x_lald (pc := 323) X V htj11 hij11 hjj11 dX5_reckonAll_323 ?_
        refine lv_lsub (pc := 324) hx hb dX5_reckonAll_324 ?_
        replace hf := nm_s hf; obtain ⟨L12, hL12, hf⟩ := hf
        refine x_last (pc := 325) X V htj11 hij11 hjj11 hL12 dX5_reckonAll_325 (fun H locs V => ?_)
        refine lv_goto (pc := 326) (tgt := 363) hx hb dX5_reckonAll_326 (by decide) ?_
        refine lv_goto (pc := 363) (tgt := 10) hx hb dX5_reckonAll_363 (by decide) ?_
        exact hk10 hf V (lv_sub hl [2, 3, 4, 0] rfl)
    · replace hf := if_f hf c3
      replace hf := nm_s hf; obtain ⟨u13, hu13, hf⟩ := hf
      refine lv_iinc (pc := 231) (v := u13) (lv' := [(3, .int u13), (4, .int u1), (6, .int z0), (0, .ref x0), (2, .int x2), (5, .int x5)]) hx hb dX5_reckonAll_231 hl (k := 4) rfl (by rw [hu13]; rfl) (by decide) rfl (fun ls hl => ?_)
      refine lv_aload_n (pc := 234) hx hb dX5_reckonAll_234 rfl (lv_at hl 3 rfl) ?_
      replace hf := tg_s hf; obtain ⟨ht14, hf⟩ := hf
      replace hf := bs hf; obtain ⟨a15, ha15, hf⟩ := hf
      refine x_get (pc := 235) X V okX5 ht14 37 (by decide) q1558 (v := va_rf (R x0 37)) rfl dX5_reckonAll_235 ?_
      refine x_topr ha15 ?_
      refine lv_iload_n (pc := 238) hx hb dX5_reckonAll_238 rfl (lv_at hl 0 rfl) ?_
      refine lv_iconst (pc := 239) (v := (ii 1)) hx hb dX5_reckonAll_239 (by decide) ?_
      refine lv_isub (pc := 240) hx hb dX5_reckonAll_240 ?_
      refine lv_aload_n (pc := 241) hx hb dX5_reckonAll_241 rfl (lv_at hl 3 rfl) ?_
      refine lv_iload (pc := 242) hx hb dX5_reckonAll_242 (lv_at hl 5 rfl) ?_
      refine lv_aload_n (pc := 244) hx hb dX5_reckonAll_244 rfl (lv_at hl 3 rfl) ?_
      refine x_get (pc := 245) X V okX5 ht14 37 (by decide) q1558 (v := va_rf (R x0 37)) rfl dX5_reckonAll_245 ?_
      refine x_topr ha15 ?_
      refine lv_iload_n (pc := 248) hx hb dX5_reckonAll_248 rfl (lv_at hl 0 rfl) ?_
      refine lv_iconst (pc := 249) (v := (ii 1)) hx hb dX5_reckonAll_249 (by decide) ?_
      refine lv_isub (pc := 250) hx hb dX5_reckonAll_250 ?_
      replace hf := rA_s hf; obtain ⟨j16, hjj16, htj16, hij16, hf⟩ := hf
      refine x_lald (pc := 251) X V htj16 hij16 hjj16 dX5_reckonAll_251 ?_
      refine lv_aload_n (pc := 252) hx hb dX5_reckonAll_252 rfl (lv_at hl 3 rfl) ?_
      refine x_get (pc := 253) X V okX5 ht14 37 (by decide) q1558 (v := va_rf (R x0 37)) rfl dX5_reckonAll_253 ?_
      refine x_topr ha15 ?_
      refine lv_iload_n (pc := 256) hx hb dX5_reckonAll_256 rfl (lv_at hl 0 rfl) ?_
      replace hf := rA_s hf; obtain ⟨j17, hjj17, htj17, hij17, hf⟩ := hf
      refine x_lald (pc := 257) X V htj17 hij17 hjj17 dX5_reckonAll_257 ?_
      replace hf := b2s hf; obtain ⟨r18, I19, hk_20, hf⟩ := hf
      refine x_callV0 (pc := 258) (As := [.int x5, .long (L a15 j16), .long (L a15 j17)]) (rest := [.int (u13 - (ii 1)), .ref a15]) X V (mX5_reckon l D dA s0 hk_20) okX5 ht14 q1775 q1777 qs55 q129 q1778 ⟨rfl, hsX5_reckon⟩ ⟨Nat.le_of_ble_eq_true rfl, Nat.le_of_ble_eq_true rfl⟩ rfl hl.1 rfl (Nat.le_of_ble_eq_true rfl) dX5_reckonAll_258 ⟨Nat.zero_le _, Nat.zero_le _⟩ (fun H locs V => W.eq (g2 := F0 m 261 ls [.long r18, .int (u13 - (ii 1)), .ref a15]) rfl ?_)
      replace hf := nm_s hf; obtain ⟨L21, hL21, hf⟩ := hf
      refine x_last (pc := 261) X V htj16 hij16 hjj16 hL21 dX5_reckonAll_261 (fun H locs V => ?_)
      refine lv_aload_n (pc := 262) hx hb dX5_reckonAll_262 rfl (lv_at hl 3 rfl) ?_
      refine lv_aload_n (pc := 263) hx hb dX5_reckonAll_263 rfl (lv_at hl 3 rfl) ?_
      refine x_get (pc := 264) X V okX5 ht14 38 (by decide) q1559 (v := .int (I19 x0 38)) rfl dX5_reckonAll_264 ?_
      refine lv_if_ne (pc := 267) (tgt := 290) hx hb dX5_reckonAll_267 (by decide) (fun c22 => ?_) (fun c22 => ?_)
      · replace hf := if_f hf c22
        refine lv_iconst (pc := 290) (v := (ii 1)) hx hb dX5_reckonAll_290 (by decide) ?_
        refine lv_goto (pc := 291) (tgt := 295) hx hb dX5_reckonAll_291 (by decide) ?_
        replace hf := nm_s hf; obtain ⟨I23, hI23, hf⟩ := hf
        refine x_puti (pc := 295) X V okX5 (by decide) ht14 38 (by decide) q1559 (Or.inl rfl) hI23 (fun _ _ _ => rfl) (by decide) (by decide) dX5_reckonAll_295 (fun H locs V => ?_)
        refine lv_goto (pc := 298) (tgt := 363) hx hb dX5_reckonAll_298 (by decide) ?_
        refine lv_goto (pc := 363) (tgt := 10) hx hb dX5_reckonAll_363 (by decide) ?_
        exact hk10 hf V (lv_sub hl [3, 4, 0, 1] rfl)
      · replace hf := if_t hf c22
        refine lv_aload_n (pc := 270) hx hb dX5_reckonAll_270 rfl (lv_at hl 3 rfl) ?_
        refine x_get (pc := 271) X V okX5 ht14 37 (by decide) q1558 (v := va_rf (R x0 37)) rfl dX5_reckonAll_271 ?_
        refine x_topr ha15 ?_
        refine lv_iload_n (pc := 274) hx hb dX5_reckonAll_274 rfl (lv_at hl 0 rfl) ?_
        refine lv_iconst (pc := 275) (v := (ii 1)) hx hb dX5_reckonAll_275 (by decide) ?_
        refine lv_isub (pc := 276) hx hb dX5_reckonAll_276 ?_
        refine x_lald (pc := 277) X V htj16 hij16 hjj16 dX5_reckonAll_277 ?_
        refine lv_ldc2 (pc := 278) (v := (-1000000000 : Int64)) hx hb X.1.2.2.2.1 (X.1.2.2.2.2 _ q1779) dX5_reckonAll_278 ?_
        refine lv_ldc2 (pc := 281) (v := (jj 1000000000)) hx hb X.1.2.2.2.1 (X.1.2.2.2.2 _ q1780) dX5_reckonAll_281 ?_
        replace hf := bs hf; obtain ⟨r24, hk_25, hf⟩ := hf
        refine x_callS0 (pc := 284) (As := [.long (L21 a15 j16), .long (-1000000000 : Int64), .long (jj 1000000000)]) (rest := [.ref x0]) X V (mX5_in l D dA s0 hk_25) q1713 q1714 q129 q1715 hsX5_in ⟨Nat.le_of_ble_eq_true rfl, Nat.le_of_ble_eq_true rfl⟩ rfl hl.1 rfl (Nat.le_of_ble_eq_true rfl) dX5_reckonAll_284 ⟨Nat.zero_le _, Nat.zero_le _⟩ (fun H locs V => W.eq (g2 := F0 m 287 ls [.int r24, .ref x0]) rfl ?_)
        refine lv_if_ne (pc := 287) (tgt := 294) hx hb dX5_reckonAll_287 (by decide) (fun c26 => ?_) (fun c26 => ?_)
        · replace hf := if_f hf c26
          refine lv_iconst (pc := 294) (v := (ii 0)) hx hb dX5_reckonAll_294 (by decide) ?_
          replace hf := nm_s hf; obtain ⟨I27, hI27, hf⟩ := hf
          refine x_puti (pc := 295) X V okX5 (by decide) ht14 38 (by decide) q1559 (Or.inl rfl) hI27 (fun _ _ _ => rfl) (by decide) (by decide) dX5_reckonAll_295 (fun H locs V => ?_)
          refine lv_goto (pc := 298) (tgt := 363) hx hb dX5_reckonAll_298 (by decide) ?_
          refine lv_goto (pc := 363) (tgt := 10) hx hb dX5_reckonAll_363 (by decide) ?_
          exact hk10 hf V (lv_sub hl [3, 4, 0, 1] rfl)
        · replace hf := if_t hf c26
          refine lv_iconst (pc := 290) (v := (ii 1)) hx hb dX5_reckonAll_290 (by decide) ?_
          refine lv_goto (pc := 291) (tgt := 295) hx hb dX5_reckonAll_291 (by decide) ?_
          replace hf := nm_s hf; obtain ⟨I28, hI28, hf⟩ := hf
          refine x_puti (pc := 295) X V okX5 (by decide) ht14 38 (by decide) q1559 (Or.inl rfl) hI28 (fun _ _ _ => rfl) (by decide) (by decide) dX5_reckonAll_295 (fun H locs V => ?_)
          refine lv_goto (pc := 298) (tgt := 363) hx hb dX5_reckonAll_298 (by decide) ?_
          refine lv_goto (pc := 363) (tgt := 10) hx hb dX5_reckonAll_363 (by decide) ?_
          exact hk10 hf V (lv_sub hl [3, 4, 0, 1] rfl)
  · replace hf := if_f hf c2
    refine lv_aload_n (pc := 107) hx hb dX5_reckonAll_107 rfl (lv_at hl 2 rfl) ?_
    replace hf := tg_s hf; obtain ⟨ht29, hf⟩ := hf
    replace hf := bs hf; obtain ⟨a30, ha30, hf⟩ := hf
    refine x_get (pc := 108) X V okX5 ht29 37 (by decide) q1558 (v := va_rf (R x0 37)) rfl dX5_reckonAll_108 ?_
    refine x_topr ha30 ?_
    refine lv_iload_n (pc := 111) hx hb dX5_reckonAll_111 rfl (lv_at hl 4 rfl) ?_
    refine lv_iload (pc := 112) hx hb dX5_reckonAll_112 (lv_at hl 5 rfl) ?_
    refine lv_if_ne (pc := 114) (tgt := 123) hx hb dX5_reckonAll_114 (by decide) (fun c31 => ?_) (fun c31 => ?_)
    · replace hf := if_f hf c31
      refine lv_aload_n (pc := 123) hx hb dX5_reckonAll_123 rfl (lv_at hl 2 rfl) ?_
      refine x_get (pc := 124) X V okX5 ht29 20 (by decide) q1541 (v := .int (I x0 20)) rfl dX5_reckonAll_124 ?_
      refine lv_if_ne (pc := 127) (tgt := 140) hx hb dX5_reckonAll_127 (by decide) (fun c32 => ?_) (fun c32 => ?_)
      · replace hf := if_f hf c32
        refine lv_iload (pc := 140) hx hb dX5_reckonAll_140 (lv_at hl 5 rfl) ?_
        refine lv_bipush (pc := 142) (v := (ii 6)) hx hb dX5_reckonAll_142 (by decide) ?_
        refine lv_icmp_ge (pc := 144) (tgt := 157) hx hb dX5_reckonAll_144 (by decide) (fun c33 => ?_) (fun c33 => ?_)
        · replace hf := if_t hf c33
          refine lv_iload (pc := 157) hx hb dX5_reckonAll_157 (lv_at hl 5 rfl) ?_
          refine lv_bipush (pc := 159) (v := (ii 6)) hx hb dX5_reckonAll_159 (by decide) ?_
          refine lv_icmp_ne (pc := 161) (tgt := 191) hx hb dX5_reckonAll_161 (by decide) (fun c34 => ?_) (fun c34 => ?_)
          · replace hf := if_f hf c34
            refine lv_aload_n (pc := 191) hx hb dX5_reckonAll_191 rfl (lv_at hl 2 rfl) ?_
            refine lv_iload (pc := 192) hx hb dX5_reckonAll_192 (lv_at hl 1 rfl) ?_
            replace hf := bs hf; obtain ⟨r35, hk_36, hf⟩ := hf
            refine x_callV0 (pc := 194) (As := [.int z0]) (rest := [.int x3, .ref a30]) X V (mX5_isLane l D dA s0 hk_36) okX5 ht29 q1742 q1744 qs49 q129 q1745 ⟨rfl, hsX5_isLane⟩ ⟨Nat.le_of_ble_eq_true rfl, Nat.le_of_ble_eq_true rfl⟩ rfl hl.1 rfl (Nat.le_of_ble_eq_true rfl) dX5_reckonAll_194 ⟨Nat.zero_le _, Nat.zero_le _⟩ (fun H locs V => W.eq (g2 := F0 m 197 ls [.int r35, .int x3, .ref a30]) rfl ?_)
            refine lv_if_eq (pc := 197) (tgt := 214) hx hb dX5_reckonAll_197 (by decide) (fun c37 => ?_) (fun c37 => ?_)
            · replace hf := if_t hf c37
              refine lv_ldc2 (pc := 214) (v := (-1 : Int64)) hx hb X.1.2.2.2.1 (X.1.2.2.2.2 _ q1766) dX5_reckonAll_214 ?_
              replace hf := rA_s hf; obtain ⟨j38, hjj38, htj38, hij38, hf⟩ := hf
              replace hf := nm_s hf; obtain ⟨L39, hL39, hf⟩ := hf
              refine x_last (pc := 217) X V htj38 hij38 hjj38 hL39 dX5_reckonAll_217 (fun H locs V => ?_)
              replace hf := nm_s hf; obtain ⟨u40, hu40, hf⟩ := hf
              refine lv_iinc (pc := 218) (v := u40) (lv' := [(3, .int u40), (4, .int u1), (6, .int z0), (0, .ref x0), (2, .int x2), (5, .int x5)]) hx hb dX5_reckonAll_218 hl (k := 4) rfl (by rw [hu40]; rfl) (by decide) rfl (fun ls hl => ?_)
              refine lv_goto (pc := 221) (tgt := 363) hx hb dX5_reckonAll_221 (by decide) ?_
              refine lv_goto (pc := 363) (tgt := 10) hx hb dX5_reckonAll_363 (by decide) ?_
              exact hk10 hf V (lv_sub hl [3, 4, 0, 1] rfl)
            · replace hf := if_f hf c37
              refine lv_aload_n (pc := 200) hx hb dX5_reckonAll_200 rfl (lv_at hl 2 rfl) ?_
              replace hf := bs hf; obtain ⟨a41, ha41, hf⟩ := hf
              refine x_get (pc := 201) X V okX5 ht29 3 (by decide) q1524 (v := va_rf (R x0 3)) rfl dX5_reckonAll_201 ?_
              refine x_topr ha41 ?_
              refine lv_bipush (pc := 204) (v := (ii 8)) hx hb dX5_reckonAll_204 (by decide) ?_
              refine lv_iload (pc := 206) hx hb dX5_reckonAll_206 (lv_at hl 1 rfl) ?_
              refine lv_iadd (pc := 208) hx hb dX5_reckonAll_208 ?_
              replace hf := rA_s hf; obtain ⟨j42, hjj42, htj42, hij42, hf⟩ := hf
              refine x_iald (pc := 209) X V htj42 hij42 hjj42 dX5_reckonAll_209 ?_
              refine lv_i2l (pc := 210) hx hb dX5_reckonAll_210 rfl ?_
              refine lv_goto (pc := 211) (tgt := 217) hx hb dX5_reckonAll_211 (by decide) ?_
              replace hf := rA_s hf; obtain ⟨j43, hjj43, htj43, hij43, hf⟩ := hf
              replace hf := nm_s hf; obtain ⟨L44, hL44, hf⟩ := hf
              refine x_last (pc := 217) X V htj43 hij43 hjj43 hL44 dX5_reckonAll_217 (fun H locs V => ?_)
              replace hf := nm_s hf; obtain ⟨u45, hu45, hf⟩ := hf
              refine lv_iinc (pc := 218) (v := u45) (lv' := [(3, .int u45), (4, .int u1), (6, .int z0), (0, .ref x0), (2, .int x2), (5, .int x5)]) hx hb dX5_reckonAll_218 hl (k := 4) rfl (by rw [hu45]; rfl) (by decide) rfl (fun ls hl => ?_)
              refine lv_goto (pc := 221) (tgt := 363) hx hb dX5_reckonAll_221 (by decide) ?_
              refine lv_goto (pc := 363) (tgt := 10) hx hb dX5_reckonAll_363 (by decide) ?_
              exact hk10 hf V (lv_sub hl [3, 4, 0, 1] rfl)
          · replace hf := if_t hf c34
            refine lv_aload_n (pc := 164) hx hb dX5_reckonAll_164 rfl (lv_at hl 2 rfl) ?_
            refine lv_iload (pc := 165) hx hb dX5_reckonAll_165 (lv_at hl 1 rfl) ?_
            replace hf := bs hf; obtain ⟨r46, hk_47, hf⟩ := hf
            refine x_callV0 (pc := 167) (As := [.int z0]) (rest := [.int x3, .ref a30]) X V (mX5_isChild l D dA s0 hk_47) okX5 ht29 q1754 q1756 qs50 q129 q1757 ⟨rfl, hsX5_isChild⟩ ⟨Nat.le_of_ble_eq_true rfl, Nat.le_of_ble_eq_true rfl⟩ rfl hl.1 rfl (Nat.le_of_ble_eq_true rfl) dX5_reckonAll_167 ⟨Nat.zero_le _, Nat.zero_le _⟩ (fun H locs V => W.eq (g2 := F0 m 170 ls [.int r46, .int x3, .ref a30]) rfl ?_)
            refine lv_if_eq (pc := 170) (tgt := 186) hx hb dX5_reckonAll_170 (by decide) (fun c48 => ?_) (fun c48 => ?_)
            · replace hf := if_t hf c48
              refine lv_iconst (pc := 186) (v := (-1 : Int32)) hx hb dX5_reckonAll_186 (by decide) ?_
              refine lv_i2l (pc := 187) hx hb dX5_reckonAll_187 rfl ?_
              refine lv_goto (pc := 188) (tgt := 217) hx hb dX5_reckonAll_188 (by decide) ?_
              replace hf := rA_s hf; obtain ⟨j49, hjj49, htj49, hij49, hf⟩ := hf
              replace hf := nm_s hf; obtain ⟨L50, hL50, hf⟩ := hf
              refine x_last (pc := 217) X V htj49 hij49 hjj49 hL50 dX5_reckonAll_217 (fun H locs V => ?_)
              replace hf := nm_s hf; obtain ⟨u51, hu51, hf⟩ := hf
              refine lv_iinc (pc := 218) (v := u51) (lv' := [(3, .int u51), (4, .int u1), (6, .int z0), (0, .ref x0), (2, .int x2), (5, .int x5)]) hx hb dX5_reckonAll_218 hl (k := 4) rfl (by rw [hu51]; rfl) (by decide) rfl (fun ls hl => ?_)
              refine lv_goto (pc := 221) (tgt := 363) hx hb dX5_reckonAll_221 (by decide) ?_
              refine lv_goto (pc := 363) (tgt := 10) hx hb dX5_reckonAll_363 (by decide) ?_
              exact hk10 hf V (lv_sub hl [3, 4, 0, 1] rfl)
            · replace hf := if_f hf c48
              refine lv_aload_n (pc := 173) hx hb dX5_reckonAll_173 rfl (lv_at hl 2 rfl) ?_
              replace hf := bs hf; obtain ⟨a52, ha52, hf⟩ := hf
              refine x_get (pc := 174) X V okX5 ht29 3 (by decide) q1524 (v := va_rf (R x0 3)) rfl dX5_reckonAll_174 ?_
              refine x_topr ha52 ?_
              refine lv_bipush (pc := 177) (v := (ii 18)) hx hb dX5_reckonAll_177 (by decide) ?_
              refine lv_iload (pc := 179) hx hb dX5_reckonAll_179 (lv_at hl 1 rfl) ?_
              refine lv_iadd (pc := 181) hx hb dX5_reckonAll_181 ?_
              replace hf := rA_s hf; obtain ⟨j53, hjj53, htj53, hij53, hf⟩ := hf
              refine x_iald (pc := 182) X V htj53 hij53 hjj53 dX5_reckonAll_182 ?_
              refine lv_goto (pc := 183) (tgt := 187) hx hb dX5_reckonAll_183 (by decide) ?_
              refine lv_i2l (pc := 187) hx hb dX5_reckonAll_187 rfl ?_
              refine lv_goto (pc := 188) (tgt := 217) hx hb dX5_reckonAll_188 (by decide) ?_
              replace hf := rA_s hf; obtain ⟨j54, hjj54, htj54, hij54, hf⟩ := hf
              replace hf := nm_s hf; obtain ⟨L55, hL55, hf⟩ := hf
              refine x_last (pc := 217) X V htj54 hij54 hjj54 hL55 dX5_reckonAll_217 (fun H locs V => ?_)
              replace hf := nm_s hf; obtain ⟨u56, hu56, hf⟩ := hf
              refine lv_iinc (pc := 218) (v := u56) (lv' := [(3, .int u56), (4, .int u1), (6, .int z0), (0, .ref x0), (2, .int x2), (5, .int x5)]) hx hb dX5_reckonAll_218 hl (k := 4) rfl (by rw [hu56]; rfl) (by decide) rfl (fun ls hl => ?_)
              refine lv_goto (pc := 221) (tgt := 363) hx hb dX5_reckonAll_221 (by decide) ?_
              refine lv_goto (pc := 363) (tgt := 10) hx hb dX5_reckonAll_363 (by decide) ?_
              exact hk10 hf V (lv_sub hl [3, 4, 0, 1] rfl)
        · replace hf := if_f hf c33
          refine lv_aload_n (pc := 147) hx hb dX5_reckonAll_147 rfl (lv_at hl 2 rfl) ?_
          replace hf := bs hf; obtain ⟨a57, ha57, hf⟩ := hf
          refine x_get (pc := 148) X V okX5 ht29 36 (by decide) q1557 (v := va_rf (R x0 36)) rfl dX5_reckonAll_148 ?_
          refine x_topr ha57 ?_
          refine lv_iload (pc := 151) hx hb dX5_reckonAll_151 (lv_at hl 5 rfl) ?_
          replace hf := rA_s hf; obtain ⟨j58, hjj58, htj58, hij58, hf⟩ := hf
          refine x_lald (pc := 153) X V htj58 hij58 hjj58 dX5_reckonAll_153 ?_
          refine lv_goto (pc := 154) (tgt := 217) hx hb dX5_reckonAll_154 (by decide) ?_
          replace hf := rA_s hf; obtain ⟨j59, hjj59, htj59, hij59, hf⟩ := hf
          replace hf := nm_s hf; obtain ⟨L60, hL60, hf⟩ := hf
          refine x_last (pc := 217) X V htj59 hij59 hjj59 hL60 dX5_reckonAll_217 (fun H locs V => ?_)
          replace hf := nm_s hf; obtain ⟨u61, hu61, hf⟩ := hf
          refine lv_iinc (pc := 218) (v := u61) (lv' := [(3, .int u61), (4, .int u1), (6, .int z0), (0, .ref x0), (2, .int x2), (5, .int x5)]) hx hb dX5_reckonAll_218 hl (k := 4) rfl (by rw [hu61]; rfl) (by decide) rfl (fun ls hl => ?_)
          refine lv_goto (pc := 221) (tgt := 363) hx hb dX5_reckonAll_221 (by decide) ?_
          refine lv_goto (pc := 363) (tgt := 10) hx hb dX5_reckonAll_363 (by decide) ?_
          exact hk10 hf V (lv_sub hl [3, 4, 0, 1] rfl)
      · replace hf := if_t hf c32
        refine lv_aload_n (pc := 130) hx hb dX5_reckonAll_130 rfl (lv_at hl 2 rfl) ?_
        replace hf := bs hf; obtain ⟨a62, ha62, hf⟩ := hf
        refine x_get (pc := 131) X V okX5 ht29 35 (by decide) q1556 (v := va_rf (R x0 35)) rfl dX5_reckonAll_131 ?_
        refine x_topr ha62 ?_
        refine lv_iload (pc := 134) hx hb dX5_reckonAll_134 (lv_at hl 5 rfl) ?_
        replace hf := rA_s hf; obtain ⟨j63, hjj63, htj63, hij63, hf⟩ := hf
        refine x_lald (pc := 136) X V htj63 hij63 hjj63 dX5_reckonAll_136 ?_
        refine lv_goto (pc := 137) (tgt := 217) hx hb dX5_reckonAll_137 (by decide) ?_
        replace hf := rA_s hf; obtain ⟨j64, hjj64, htj64, hij64, hf⟩ := hf
        replace hf := nm_s hf; obtain ⟨L65, hL65, hf⟩ := hf
        refine x_last (pc := 217) X V htj64 hij64 hjj64 hL65 dX5_reckonAll_217 (fun H locs V => ?_)
        replace hf := nm_s hf; obtain ⟨u66, hu66, hf⟩ := hf
        refine lv_iinc (pc := 218) (v := u66) (lv' := [(3, .int u66), (4, .int u1), (6, .int z0), (0, .ref x0), (2, .int x2), (5, .int x5)]) hx hb dX5_reckonAll_218 hl (k := 4) rfl (by rw [hu66]; rfl) (by decide) rfl (fun ls hl => ?_)
        refine lv_goto (pc := 221) (tgt := 363) hx hb dX5_reckonAll_221 (by decide) ?_
        refine lv_goto (pc := 363) (tgt := 10) hx hb dX5_reckonAll_363 (by decide) ?_
        exact hk10 hf V (lv_sub hl [3, 4, 0, 1] rfl)
    · replace hf := if_t hf c31
      refine lv_iload (pc := 117) hx hb dX5_reckonAll_117 (lv_at hl 1 rfl) ?_
      refine lv_i2l (pc := 119) hx hb dX5_reckonAll_119 rfl ?_
      refine lv_goto (pc := 120) (tgt := 217) hx hb dX5_reckonAll_120 (by decide) ?_
      replace hf := rA_s hf; obtain ⟨j67, hjj67, htj67, hij67, hf⟩ := hf
      replace hf := nm_s hf; obtain ⟨L68, hL68, hf⟩ := hf
      refine x_last (pc := 217) X V htj67 hij67 hjj67 hL68 dX5_reckonAll_217 (fun H locs V => ?_)
      replace hf := nm_s hf; obtain ⟨u69, hu69, hf⟩ := hf
      refine lv_iinc (pc := 218) (v := u69) (lv' := [(3, .int u69), (4, .int u1), (6, .int z0), (0, .ref x0), (2, .int x2), (5, .int x5)]) hx hb dX5_reckonAll_218 hl (k := 4) rfl (by rw [hu69]; rfl) (by decide) rfl (fun ls hl => ?_)
      refine lv_goto (pc := 221) (tgt := 363) hx hb dX5_reckonAll_221 (by decide) ?_
      refine lv_goto (pc := 363) (tgt := 10) hx hb dX5_reckonAll_363 (by decide) ?_
      exact hk10 hf V (lv_sub hl [3, 4, 0, 1] rfl)
set_option maxHeartbeats 400000 in
set_option maxRecDepth 100000 in
theorem wX5_reckonAll_b57 {nf : Nat} {p : Program} {l : Launch} {e : Env} {s : State} {m : MethodId} {args : Array Value} {below : List Frame} {meth : Method} {c : Code} {D : va_G} {dA : Nat → ClassId} {s0 : Nat} {T : xT} {N : xT} {Z : Nat} {I : xI} {L : xL} {R : xR} {H : Heap} {locs : List Loc} {ls : Array Slot} {kk10 : xI → xL → Nat → Int32 → Int32 → Int32 → Option (xI × xL)} {x0 : Nat} {x2 : Int32} {x3 : Int32} {x4 : Int32} {z0 : Int32} {Io : xI} {Lo : xL} (X : Cx D dA s0 p m c cX5_reckonAll 7 s args RX5 meth) (hr : meth.sig.returnType = none) (hk10 : ∀ {I : xI} {L : xL} {x0 : Nat} {x2 : Int32} {x3 : Int32} {x4 : Int32} {H : Heap} {locs : List Loc} {ls : Array Slot} , kk10 I L x0 x2 x3 x4 = some (Io, Lo) → Iv D dA s0 s T N Z I L R H locs → lv_has ls 7 [(0, .ref x0), (2, .int x2), (3, .int x3), (4, .int x4)] → W p l e { frames := 2, cells := 0, slots := 0, locals := 46 } s m args below meth c H locs 0 0 (MQ below (xQ D dA s0 none T N Z Io Lo R) args s 0 0 (fun q => s0 ≤ q)) (F0 m 10 ls []))  (hf : fX5_reckonAll_b57 nf kk10 T N I L R x0 x2 x3 x4 z0 = some (Io, Lo)) (V : Iv D dA s0 s T N Z I L R H locs) (hl : lv_has ls 7 [(0, .ref x0), (2, .int x2), (3, .int x3), (4, .int x4)]) : W p l e { frames := 2, cells := 0, slots := 0, locals := 46 } s m args below meth c H locs 0 0 (MQ below (xQ D dA s0 none T N Z Io Lo R) args s 0 0 (fun q => s0 ≤ q)) (F0 m 57 ls [.int z0]) := by
  have hx := X.1.1
  have hb := X.1.2.1
  unfold fX5_reckonAll_b57 at hf
  refine lv_istore (pc := 57) (lv' := [(5, .int z0), (0, .ref x0), (2, .int x2), (3, .int x3), (4, .int x4)]) hx hb dX5_reckonAll_57 hl (by decide) rfl (fun ls hl => ?_)
  refine lv_aload_n (pc := 59) hx hb dX5_reckonAll_59 rfl (lv_at hl 1 rfl) ?_
  replace hf := tg_s hf; obtain ⟨ht1, hf⟩ := hf
  refine x_get (pc := 60) X V okX5 ht1 20 (by decide) q1541 (v := .int (I x0 20)) rfl dX5_reckonAll_60 ?_
  refine lv_if_eq (pc := 63) (tgt := 76) hx hb dX5_reckonAll_63 (by decide) (fun c2 => ?_) (fun c2 => ?_)
  · replace hf := if_t hf c2
    refine lv_aload_n (pc := 76) hx hb dX5_reckonAll_76 rfl (lv_at hl 1 rfl) ?_
    replace hf := bs hf; obtain ⟨a3, ha3, hf⟩ := hf
    refine x_get (pc := 77) X V okX5 ht1 3 (by decide) q1524 (v := va_rf (R x0 3)) rfl dX5_reckonAll_77 ?_
    refine x_topr ha3 ?_
    refine lv_aload_n (pc := 80) hx hb dX5_reckonAll_80 rfl (lv_at hl 1 rfl) ?_
    refine x_get (pc := 81) X V okX5 ht1 34 (by decide) q1555 (v := .int (I x0 34)) rfl dX5_reckonAll_81 ?_
    refine lv_bipush (pc := 84) (v := (ii 98)) hx hb dX5_reckonAll_84 (by decide) ?_
    refine lv_iadd (pc := 86) hx hb dX5_reckonAll_86 ?_
    refine lv_iconst (pc := 87) (v := (ii 2)) hx hb dX5_reckonAll_87 (by decide) ?_
    refine lv_iload (pc := 88) hx hb dX5_reckonAll_88 (lv_at hl 4 rfl) ?_
    refine lv_imul (pc := 90) hx hb dX5_reckonAll_90 ?_
    refine lv_iadd (pc := 91) hx hb dX5_reckonAll_91 ?_
    refine lv_iconst (pc := 92) (v := (ii 1)) hx hb dX5_reckonAll_92 (by decide) ?_
    refine lv_iadd (pc := 93) hx hb dX5_reckonAll_93 ?_
    replace hf := rA_s hf; obtain ⟨j4, hjj4, htj4, hij4, hf⟩ := hf
    refine x_iald (pc := 94) X V htj4 hij4 hjj4 dX5_reckonAll_94 ?_
    exact wX5_reckonAll_b95 X hr hk10 hf V (lv_sub hl [1, 2, 3, 4, 0] rfl)
  · replace hf := if_f hf c2
    refine lv_aload_n (pc := 66) hx hb dX5_reckonAll_66 rfl (lv_at hl 1 rfl) ?_
    replace hf := bs hf; obtain ⟨a5, ha5, hf⟩ := hf
    refine x_get (pc := 67) X V okX5 ht1 25 (by decide) q1546 (v := va_rf (R x0 25)) rfl dX5_reckonAll_67 ?_
    refine x_topr ha5 ?_
    refine lv_iload (pc := 70) hx hb dX5_reckonAll_70 (lv_at hl 4 rfl) ?_
    replace hf := rA_s hf; obtain ⟨j6, hjj6, htj6, hij6, hf⟩ := hf
    refine x_iald (pc := 72) X V htj6 hij6 hjj6 dX5_reckonAll_72 ?_
    refine lv_goto (pc := 73) (tgt := 95) hx hb dX5_reckonAll_73 (by decide) ?_
    exact wX5_reckonAll_b95 X hr hk10 hf V (lv_sub hl [1, 2, 3, 4, 0] rfl)
set_option maxHeartbeats 400000 in
set_option maxRecDepth 100000 in
theorem wX5_reckonAll_b10 {nf : Nat} {p : Program} {l : Launch} {e : Env} {s : State} {m : MethodId} {args : Array Value} {below : List Frame} {meth : Method} {c : Code} {D : va_G} {dA : Nat → ClassId} {s0 : Nat} {T : xT} {N : xT} {Z : Nat} {R : xR}  {Io : xI} {Lo : xL} (X : Cx D dA s0 p m c cX5_reckonAll 7 s args RX5 meth) (hr : meth.sig.returnType = none)   (k : Nat) : ∀ {I : xI} {L : xL} {x0 : Nat} {x2 : Int32} {x3 : Int32} {x4 : Int32} {H : Heap} {locs : List Loc} {ls : Array Slot} , fX5_reckonAll_b10 nf T N R k I L x0 x2 x3 x4 = some (Io, Lo) → Iv D dA s0 s T N Z I L R H locs → lv_has ls 7 [(0, .ref x0), (2, .int x2), (3, .int x3), (4, .int x4)] → W p l e { frames := 2, cells := 0, slots := 0, locals := 46 } s m args below meth c H locs 0 0 (MQ below (xQ D dA s0 none T N Z Io Lo R) args s 0 0 (fun q => s0 ≤ q)) (F0 m 10 ls []) := by
  have hx := X.1.1
  have hb := X.1.2.1
  induction k with
  | zero =>
    intro I L x0 x2 x3 x4 H locs ls hf V hl
    exact absurd (show none = some _ from hf) (fun q => nomatch q)
  | succ k ih =>
    intro I L x0 x2 x3 x4 H locs ls hf V hl
    rw [fX5_reckonAll_b10] at hf
    refine lv_iload (pc := 10) hx hb dX5_reckonAll_10 (lv_at hl 3 rfl) ?_
    refine lv_iload_n (pc := 12) hx hb dX5_reckonAll_12 rfl (lv_at hl 1 rfl) ?_
    refine lv_icmp_ge (pc := 13) (tgt := 366) hx hb dX5_reckonAll_13 (by decide) (fun c1 => ?_) (fun c1 => ?_)
    · replace hf := if_t hf c1
      exact wX5_reckonAll_b366 X hr hf V (lv_sub hl [0, 2] rfl)
    · replace hf := if_f hf c1
      refine lv_aload_n (pc := 16) hx hb dX5_reckonAll_16 rfl (lv_at hl 0 rfl) ?_
      replace hf := tg_s hf; obtain ⟨ht2, hf⟩ := hf
      refine x_get (pc := 17) X V okX5 ht2 38 (by decide) q1559 (v := .int (I x0 38)) rfl dX5_reckonAll_17 ?_
      refine lv_if_ne (pc := 20) (tgt := 366) hx hb dX5_reckonAll_20 (by decide) (fun c3 => ?_) (fun c3 => ?_)
      · replace hf := if_f hf c3
        exact wX5_reckonAll_b366 X hr hf V (lv_sub hl [0, 2] rfl)
      · replace hf := if_t hf c3
        refine lv_aload_n (pc := 23) hx hb dX5_reckonAll_23 rfl (lv_at hl 0 rfl) ?_
        refine x_get (pc := 24) X V okX5 ht2 20 (by decide) q1541 (v := .int (I x0 20)) rfl dX5_reckonAll_24 ?_
        refine lv_if_eq (pc := 27) (tgt := 40) hx hb dX5_reckonAll_27 (by decide) (fun c4 => ?_) (fun c4 => ?_)
        · replace hf := if_t hf c4
          refine lv_aload_n (pc := 40) hx hb dX5_reckonAll_40 rfl (lv_at hl 0 rfl) ?_
          replace hf := bs hf; obtain ⟨a5, ha5, hf⟩ := hf
          refine x_get (pc := 41) X V okX5 ht2 3 (by decide) q1524 (v := va_rf (R x0 3)) rfl dX5_reckonAll_41 ?_
          refine x_topr ha5 ?_
          refine lv_aload_n (pc := 44) hx hb dX5_reckonAll_44 rfl (lv_at hl 0 rfl) ?_
          refine x_get (pc := 45) X V okX5 ht2 34 (by decide) q1555 (v := .int (I x0 34)) rfl dX5_reckonAll_45 ?_
          refine lv_bipush (pc := 48) (v := (ii 98)) hx hb dX5_reckonAll_48 (by decide) ?_
          refine lv_iadd (pc := 50) hx hb dX5_reckonAll_50 ?_
          refine lv_iconst (pc := 51) (v := (ii 2)) hx hb dX5_reckonAll_51 (by decide) ?_
          refine lv_iload (pc := 52) hx hb dX5_reckonAll_52 (lv_at hl 3 rfl) ?_
          refine lv_imul (pc := 54) hx hb dX5_reckonAll_54 ?_
          refine lv_iadd (pc := 55) hx hb dX5_reckonAll_55 ?_
          replace hf := rA_s hf; obtain ⟨j6, hjj6, htj6, hij6, hf⟩ := hf
          refine x_iald (pc := 56) X V htj6 hij6 hjj6 dX5_reckonAll_56 ?_
          exact wX5_reckonAll_b57 X hr ih hf V (lv_sub hl [0, 1, 2, 3] rfl)
        · replace hf := if_f hf c4
          refine lv_aload_n (pc := 30) hx hb dX5_reckonAll_30 rfl (lv_at hl 0 rfl) ?_
          replace hf := bs hf; obtain ⟨a7, ha7, hf⟩ := hf
          refine x_get (pc := 31) X V okX5 ht2 24 (by decide) q1545 (v := va_rf (R x0 24)) rfl dX5_reckonAll_31 ?_
          refine x_topr ha7 ?_
          refine lv_iload (pc := 34) hx hb dX5_reckonAll_34 (lv_at hl 3 rfl) ?_
          replace hf := rA_s hf; obtain ⟨j8, hjj8, htj8, hij8, hf⟩ := hf
          refine x_iald (pc := 36) X V htj8 hij8 hjj8 dX5_reckonAll_36 ?_
          refine lv_goto (pc := 37) (tgt := 57) hx hb dX5_reckonAll_37 (by decide) ?_
          exact wX5_reckonAll_b57 X hr ih hf V (lv_sub hl [0, 1, 2, 3] rfl)
set_option maxHeartbeats 400000 in
set_option maxRecDepth 100000 in
theorem wX5_reckonAll_e {nf : Nat} {p : Program} {l : Launch} {e : Env} {s : State} {m : MethodId} {args : Array Value} {below : List Frame} {meth : Method} {c : Code} {D : va_G} {dA : Nat → ClassId} {s0 : Nat} {T : xT} {N : xT} {Z : Nat} {I : xI} {L : xL} {R : xR} {H : Heap} {locs : List Loc} {ls : Array Slot} {x0 : Nat} {x1 : Int32} {x2 : Int32} {Io : xI} {Lo : xL} (X : Cx D dA s0 p m c cX5_reckonAll 7 s args RX5 meth) (hr : meth.sig.returnType = none) (hf : fX5_reckonAll nf T N I L R x0 x1 x2 = some (Io, Lo)) (V : Iv D dA s0 s T N Z I L R H locs) (hl : lv_has ls 7 [(0, .ref x0), (1, .int x1), (2, .int x2)]) : W p l e { frames := 2, cells := 0, slots := 0, locals := 46 } s m args below meth c H locs 0 0 (MQ below (xQ D dA s0 none T N Z Io Lo R) args s 0 0 (fun q => s0 ≤ q)) (F0 m 0 ls []) := by
  have hx := X.1.1
  have hb := X.1.2.1
  unfold fX5_reckonAll at hf
  refine lv_aload_n (pc := 0) hx hb dX5_reckonAll_0 rfl (lv_at hl 0 rfl) ?_
  refine lv_iconst (pc := 1) (v := (ii 0)) hx hb dX5_reckonAll_1 (by decide) ?_
  replace hf := tg_s hf; obtain ⟨ht1, hf⟩ := hf
  replace hf := nm_s hf; obtain ⟨I2, hI2, hf⟩ := hf
  refine x_puti (pc := 2) X V okX5 (by decide) ht1 38 (by decide) q1559 (Or.inl rfl) hI2 (fun _ _ _ => rfl) (by decide) (by decide) dX5_reckonAll_2 (fun H locs V => ?_)
  refine lv_iconst (pc := 5) (v := (ii 0)) hx hb dX5_reckonAll_5 (by decide) ?_
  refine lv_istore_n (pc := 6) (lv' := [(3, .int (ii 0)), (0, .ref x0), (1, .int x1), (2, .int x2)]) hx hb dX5_reckonAll_6 rfl hl (by decide) rfl (fun ls hl => ?_)
  refine lv_iload_n (pc := 7) hx hb dX5_reckonAll_7 rfl (lv_at hl 2 rfl) ?_
  refine lv_istore (pc := 8) (lv' := [(4, .int x1), (3, .int (ii 0)), (0, .ref x0), (1, .int x1), (2, .int x2)]) hx hb dX5_reckonAll_8 hl (by decide) rfl (fun ls hl => ?_)
  exact wX5_reckonAll_b10 X hr nf hf V (lv_sub hl [2, 4, 1, 0] rfl)
theorem mX5_reckonAll {nf : Nat} (l : Launch) (D : va_G) (dA : Nat → ClassId) (s0 : Nat) {T : xT} {N : xT} {Z : Nat} {I : xI} {L : xL} {R : xR} {x0 : Nat} {x1 : Int32} {x2 : Int32} {Io : xI} {Lo : xL} (hf : fX5_reckonAll nf T N I L R x0 x1 x2 = some (Io, Lo)) : XMet l D dA s0 yX5_reckonAll (ws_ yX5_reckonAll cX5_reckonAll 7 (none)) (2) (46) [.ref x0, .int x1, .int x2] T N Z I L R none T N Z Io Lo R 0 0 :=
  x_start (own := RX5) rfl (by decide) (Nat.le_of_ble_eq_true rfl) (lv := [(0, .ref x0), (1, .int x1), (2, .int x2)]) rfl (fun p e s m below meth c ls X hr hini V hl => wX5_reckonAll_e X hr hf V hl)
set_option maxHeartbeats 400000 in
set_option maxRecDepth 100000 in
theorem wX5_isSo_b59 {nf : Nat} {p : Program} {l : Launch} {e : Env} {s : State} {m : MethodId} {args : Array Value} {below : List Frame} {meth : Method} {c : Code} {D : va_G} {dA : Nat → ClassId} {s0 : Nat} {T : xT} {N : xT} {Z : Nat} {I : xI} {L : xL} {R : xR} {H : Heap} {locs : List Loc} {ls : Array Slot}  {x0 : Nat} {x1 : Int32} {ro : Int32} {Io : xI} {Lo : xL} (X : Cx D dA s0 p m c cX5_isSo 2 s args RX5 meth) (hr : meth.sig.returnType = (some .boolean))   (hf : fX5_isSo_b59 nf T N I L R x0 x1 = some (ro, Io, Lo)) (V : Iv D dA s0 s T N Z I L R H locs) (hl : lv_has ls 2 [(0, .ref x0), (1, .int x1)]) : W p l e { frames := 3, cells := 0, slots := 0, locals := 72 } s m args below meth c H locs 0 0 (MQ below (xQ D dA s0 (some (.int ro)) T N Z Io Lo R) args s 0 0 (fun q => s0 ≤ q)) (F0 m 59 ls []) := by
  have hx := X.1.1
  have hb := X.1.2.1
  unfold fX5_isSo_b59 at hf
  refine lv_aload_n (pc := 59) hx hb dX5_isSo_59 rfl (lv_at hl 0 rfl) ?_
  replace hf := tg_s hf; obtain ⟨ht1, hf⟩ := hf
  replace hf := bs hf; obtain ⟨a2, ha2, hf⟩ := hf
  refine x_get (pc := 60) X V okX5 ht1 3 (by decide) q1524 (v := va_rf (R x0 3)) rfl dX5_isSo_60 ?_
  refine x_topr ha2 ?_
  refine lv_iload_n (pc := 63) hx hb dX5_isSo_63 rfl (lv_at hl 1 rfl) ?_
  replace hf := rA_s hf; obtain ⟨j3, hjj3, htj3, hij3, hf⟩ := hf
  refine x_iald (pc := 64) X V htj3 hij3 hjj3 dX5_isSo_64 ?_
  refine lv_iconst (pc := 65) (v := (ii 2)) hx hb dX5_isSo_65 (by decide) ?_
  refine lv_icmp_eq (pc := 66) (tgt := 110) hx hb dX5_isSo_66 (by decide) (fun c4 => ?_) (fun c4 => ?_)
  · replace hf := if_t hf c4
    refine lv_iconst (pc := 110) (v := (ii 1)) hx hb dX5_isSo_110 (by decide) ?_
    cases hf
    exact x_zret (pc := 111) X V hr (by decide) dX5_isSo_111
  · replace hf := if_f hf c4
    refine lv_aload_n (pc := 69) hx hb dX5_isSo_69 rfl (lv_at hl 0 rfl) ?_
    refine lv_aload_n (pc := 70) hx hb dX5_isSo_70 rfl (lv_at hl 0 rfl) ?_
    refine x_get (pc := 71) X V okX5 ht1 3 (by decide) q1524 (v := va_rf (R x0 3)) rfl dX5_isSo_71 ?_
    refine x_topr ha2 ?_
    refine lv_iload_n (pc := 74) hx hb dX5_isSo_74 rfl (lv_at hl 1 rfl) ?_
    refine lv_iconst (pc := 75) (v := (ii 3)) hx hb dX5_isSo_75 (by decide) ?_
    refine lv_iadd (pc := 76) hx hb dX5_isSo_76 ?_
    replace hf := rA_s hf; obtain ⟨j5, hjj5, htj5, hij5, hf⟩ := hf
    refine x_iald (pc := 77) X V htj5 hij5 hjj5 dX5_isSo_77 ?_
    refine lv_aload_n (pc := 78) hx hb dX5_isSo_78 rfl (lv_at hl 0 rfl) ?_
    refine x_get (pc := 79) X V okX5 ht1 3 (by decide) q1524 (v := va_rf (R x0 3)) rfl dX5_isSo_79 ?_
    refine x_topr ha2 ?_
    refine lv_iload_n (pc := 82) hx hb dX5_isSo_82 rfl (lv_at hl 1 rfl) ?_
    refine lv_iconst (pc := 83) (v := (ii 4)) hx hb dX5_isSo_83 (by decide) ?_
    refine lv_iadd (pc := 84) hx hb dX5_isSo_84 ?_
    replace hf := rA_s hf; obtain ⟨j6, hjj6, htj6, hij6, hf⟩ := hf
    refine x_iald (pc := 85) X V htj6 hij6 hjj6 dX5_isSo_85 ?_
    replace hf := b2s hf; obtain ⟨I7, L8, hk_9, hf⟩ := hf
    refine x_callV0 (pc := 86) (As := [.int (I a2 j5), .int (I a2 j6)]) (rest := []) X V (mX5_reckonAll l D dA s0 hk_9) okX5 ht1 q1771 q1773 qs54 q129 q1774 ⟨rfl, hsX5_reckonAll⟩ ⟨Nat.le_of_ble_eq_true rfl, Nat.le_of_ble_eq_true rfl⟩ rfl hl.1 rfl (Nat.le_of_ble_eq_true rfl) dX5_isSo_86 ⟨Nat.zero_le _, Nat.zero_le _⟩ (fun H locs V => W.eq (g2 := F0 m 89 ls []) rfl ?_)
    refine lv_aload_n (pc := 89) hx hb dX5_isSo_89 rfl (lv_at hl 0 rfl) ?_
    refine lv_aload_n (pc := 90) hx hb dX5_isSo_90 rfl (lv_at hl 0 rfl) ?_
    refine x_get (pc := 91) X V okX5 ht1 39 (by decide) q1560 (v := .long (L8 x0 39)) rfl dX5_isSo_91 ?_
    replace hf := nm_s hf; obtain ⟨L10, hL10, hf⟩ := hf
    refine x_putl (pc := 94) X V okX5 (by decide) ht1 40 (by decide) q1561 (Or.inl rfl) hL10 (fun _ _ _ => rfl) rfl rfl dX5_isSo_94 (fun H locs V => ?_)
    refine lv_aload_n (pc := 97) hx hb dX5_isSo_97 rfl (lv_at hl 0 rfl) ?_
    refine x_get (pc := 98) X V okX5 ht1 38 (by decide) q1559 (v := .int (I7 x0 38)) rfl dX5_isSo_98 ?_
    refine lv_if_ne (pc := 101) (tgt := 108) hx hb dX5_isSo_101 (by decide) (fun c11 => ?_) (fun c11 => ?_)
    · replace hf := if_f hf c11
      refine lv_iconst (pc := 108) (v := (ii 0)) hx hb dX5_isSo_108 (by decide) ?_
      cases hf
      exact x_zret (pc := 109) X V hr (by decide) dX5_isSo_109
    · replace hf := if_t hf c11
      refine lv_iconst (pc := 104) (v := (ii 1)) hx hb dX5_isSo_104 (by decide) ?_
      refine lv_goto (pc := 105) (tgt := 109) hx hb dX5_isSo_105 (by decide) ?_
      cases hf
      exact x_zret (pc := 109) X V hr (by decide) dX5_isSo_109
set_option maxHeartbeats 400000 in
set_option maxRecDepth 100000 in
theorem wX5_isSo_e {nf : Nat} {p : Program} {l : Launch} {e : Env} {s : State} {m : MethodId} {args : Array Value} {below : List Frame} {meth : Method} {c : Code} {D : va_G} {dA : Nat → ClassId} {s0 : Nat} {T : xT} {N : xT} {Z : Nat} {I : xI} {L : xL} {R : xR} {H : Heap} {locs : List Loc} {ls : Array Slot} {x0 : Nat} {x1 : Int32} {ro : Int32} {Io : xI} {Lo : xL} (X : Cx D dA s0 p m c cX5_isSo 2 s args RX5 meth) (hr : meth.sig.returnType = (some .boolean)) (hf : fX5_isSo nf T N I L R x0 x1 = some (ro, Io, Lo)) (V : Iv D dA s0 s T N Z I L R H locs) (hl : lv_has ls 2 [(0, .ref x0), (1, .int x1)]) : W p l e { frames := 3, cells := 0, slots := 0, locals := 72 } s m args below meth c H locs 0 0 (MQ below (xQ D dA s0 (some (.int ro)) T N Z Io Lo R) args s 0 0 (fun q => s0 ≤ q)) (F0 m 0 ls []) := by
  have hx := X.1.1
  have hb := X.1.2.1
  unfold fX5_isSo at hf
  refine lv_aload_n (pc := 0) hx hb dX5_isSo_0 rfl (lv_at hl 0 rfl) ?_
  replace hf := tg_s hf; obtain ⟨ht1, hf⟩ := hf
  replace hf := bs hf; obtain ⟨a2, ha2, hf⟩ := hf
  refine x_get (pc := 1) X V okX5 ht1 3 (by decide) q1524 (v := va_rf (R x0 3)) rfl dX5_isSo_1 ?_
  refine x_topr ha2 ?_
  refine lv_iload_n (pc := 4) hx hb dX5_isSo_4 rfl (lv_at hl 1 rfl) ?_
  refine lv_iconst (pc := 5) (v := (ii 5)) hx hb dX5_isSo_5 (by decide) ?_
  refine lv_iadd (pc := 6) hx hb dX5_isSo_6 ?_
  replace hf := rA_s hf; obtain ⟨j3, hjj3, htj3, hij3, hf⟩ := hf
  refine x_iald (pc := 7) X V htj3 hij3 hjj3 dX5_isSo_7 ?_
  refine lv_aload_n (pc := 8) hx hb dX5_isSo_8 rfl (lv_at hl 0 rfl) ?_
  refine x_get (pc := 9) X V okX5 ht1 3 (by decide) q1524 (v := va_rf (R x0 3)) rfl dX5_isSo_9 ?_
  refine x_topr ha2 ?_
  refine lv_iload_n (pc := 12) hx hb dX5_isSo_12 rfl (lv_at hl 1 rfl) ?_
  refine lv_bipush (pc := 13) (v := (ii 6)) hx hb dX5_isSo_13 (by decide) ?_
  refine lv_iadd (pc := 15) hx hb dX5_isSo_15 ?_
  replace hf := rA_s hf; obtain ⟨j4, hjj4, htj4, hij4, hf⟩ := hf
  refine x_iald (pc := 16) X V htj4 hij4 hjj4 dX5_isSo_16 ?_
  refine lv_icmp_ge (pc := 17) (tgt := 59) hx hb dX5_isSo_17 (by decide) (fun c5 => ?_) (fun c5 => ?_)
  · replace hf := if_t hf c5
    exact wX5_isSo_b59 X hr hf V (lv_sub hl [0, 1] rfl)
  · replace hf := if_f hf c5
    refine lv_aload_n (pc := 20) hx hb dX5_isSo_20 rfl (lv_at hl 0 rfl) ?_
    refine lv_aload_n (pc := 21) hx hb dX5_isSo_21 rfl (lv_at hl 0 rfl) ?_
    refine x_get (pc := 22) X V okX5 ht1 3 (by decide) q1524 (v := va_rf (R x0 3)) rfl dX5_isSo_22 ?_
    refine x_topr ha2 ?_
    refine lv_iload_n (pc := 25) hx hb dX5_isSo_25 rfl (lv_at hl 1 rfl) ?_
    refine lv_iconst (pc := 26) (v := (ii 5)) hx hb dX5_isSo_26 (by decide) ?_
    refine lv_iadd (pc := 27) hx hb dX5_isSo_27 ?_
    refine x_iald (pc := 28) X V htj3 hij3 hjj3 dX5_isSo_28 ?_
    refine lv_aload_n (pc := 29) hx hb dX5_isSo_29 rfl (lv_at hl 0 rfl) ?_
    refine x_get (pc := 30) X V okX5 ht1 3 (by decide) q1524 (v := va_rf (R x0 3)) rfl dX5_isSo_30 ?_
    refine x_topr ha2 ?_
    refine lv_iload_n (pc := 33) hx hb dX5_isSo_33 rfl (lv_at hl 1 rfl) ?_
    refine lv_bipush (pc := 34) (v := (ii 6)) hx hb dX5_isSo_34 (by decide) ?_
    refine lv_iadd (pc := 36) hx hb dX5_isSo_36 ?_
    refine x_iald (pc := 37) X V htj4 hij4 hjj4 dX5_isSo_37 ?_
    replace hf := b2s hf; obtain ⟨I6, L7, hk_8, hf⟩ := hf
    refine x_callV0 (pc := 38) (As := [.int (I a2 j3), .int (I a2 j4)]) (rest := []) X V (mX5_reckonAll l D dA s0 hk_8) okX5 ht1 q1771 q1773 qs54 q129 q1774 ⟨rfl, hsX5_reckonAll⟩ ⟨Nat.le_of_ble_eq_true rfl, Nat.le_of_ble_eq_true rfl⟩ rfl hl.1 rfl (Nat.le_of_ble_eq_true rfl) dX5_isSo_38 ⟨Nat.zero_le _, Nat.zero_le _⟩ (fun H locs V => W.eq (g2 := F0 m 41 ls []) rfl ?_)
    refine lv_aload_n (pc := 41) hx hb dX5_isSo_41 rfl (lv_at hl 0 rfl) ?_
    refine x_get (pc := 42) X V okX5 ht1 38 (by decide) q1559 (v := .int (I6 x0 38)) rfl dX5_isSo_42 ?_
    refine lv_if_ne (pc := 45) (tgt := 57) hx hb dX5_isSo_45 (by decide) (fun c9 => ?_) (fun c9 => ?_)
    · replace hf := if_f hf c9
      refine lv_iconst (pc := 57) (v := (ii 0)) hx hb dX5_isSo_57 (by decide) ?_
      cases hf
      exact x_zret (pc := 58) X V hr (by decide) dX5_isSo_58
    · replace hf := if_t hf c9
      refine lv_aload_n (pc := 48) hx hb dX5_isSo_48 rfl (lv_at hl 0 rfl) ?_
      refine x_get (pc := 49) X V okX5 ht1 39 (by decide) q1560 (v := .long (L7 x0 39)) rfl dX5_isSo_49 ?_
      refine lv_lconst (pc := 52) (v := (jj 0)) hx hb dX5_isSo_52 (by decide) ?_
      refine lc_ne (pc := 53) (tgt := 59) hx hb dX5_isSo_53 dX5_isSo_54 (by decide) (fun c10 => ?_) (fun c10 => ?_)
      · replace hf := if_f hf c10
        exact wX5_isSo_b59 X hr hf V (lv_sub hl [0, 1] rfl)
      · replace hf := if_t hf c10
        refine lv_iconst (pc := 57) (v := (ii 0)) hx hb dX5_isSo_57 (by decide) ?_
        cases hf
        exact x_zret (pc := 58) X V hr (by decide) dX5_isSo_58
theorem mX5_isSo {nf : Nat} (l : Launch) (D : va_G) (dA : Nat → ClassId) (s0 : Nat) {T : xT} {N : xT} {Z : Nat} {I : xI} {L : xL} {R : xR} {x0 : Nat} {x1 : Int32} {ro : Int32} {Io : xI} {Lo : xL} (hf : fX5_isSo nf T N I L R x0 x1 = some (ro, Io, Lo)) : XMet l D dA s0 yX5_isSo (ws_ yX5_isSo cX5_isSo 2 ((some .boolean))) (3) (72) [.ref x0, .int x1] T N Z I L R (some (.int ro)) T N Z Io Lo R 0 0 :=
  x_start (own := RX5) rfl (by decide) (Nat.le_of_ble_eq_true rfl) (lv := [(0, .ref x0), (1, .int x1)]) rfl (fun p e s m below meth c ls X hr hini V hl => wX5_isSo_e X hr hf V hl)
