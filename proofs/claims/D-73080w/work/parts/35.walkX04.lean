set_option maxHeartbeats 400000 in
set_option maxRecDepth 100000 in
theorem wJ13_bitCount_e {p : Program} {l : Launch} {e : Env} {s : State} {m : MethodId} {args : Array Value} {below : List Frame} {meth : Method} {c : Code} {D : va_G} {dA : Nat → ClassId} {s0 : Nat} {T : xT} {N : xT} {Z : Nat} {I : xI} {L : xL} {R : xR} {H : Heap} {locs : List Loc} {ls : Array Slot} {x0 : Int32} {ro : Int32} (X : Cx D dA s0 p m c cJ13_bitCount 1 s args RJ13 meth) (hr : meth.sig.returnType = (some .int)) (hf : fJ13_bitCount x0 = some ro) (V : Iv D dA s0 s T N Z I L R H locs) (hl : lv_has ls 1 [(0, .int x0)]) : W p l e { frames := 0, cells := 0, slots := 0, locals := 0 } s m args below meth c H locs 0 0 (MQ below (xQ D dA s0 (some (.int ro)) T N Z I L R) args s 0 0 (fun q => s0 ≤ q)) (F0 m 0 ls []) := by
  have hx := X.1.1
  have hb := X.1.2.1
  unfold fJ13_bitCount at hf
  refine lv_iload_n (pc := 0) hx hb dJ13_bitCount_0 rfl (lv_at hl 0 rfl) ?_
  refine lv_iload_n (pc := 1) hx hb dJ13_bitCount_1 rfl (lv_at hl 0 rfl) ?_
  refine lv_iconst (pc := 2) (v := (ii 1)) hx hb dJ13_bitCount_2 (by decide) ?_
  refine lv_iushr (pc := 3) hx hb dJ13_bitCount_3 rfl ?_
  refine lv_ldcw (pc := 4) (v := (ii 1431655765)) hx hb X.1.2.2.2.1 (X.1.2.2.2.2 _ q1321) dJ13_bitCount_4 ?_
  refine lv_iand (pc := 7) hx hb dJ13_bitCount_7 ?_
  refine lv_isub (pc := 8) hx hb dJ13_bitCount_8 ?_
  replace hf := nm_s hf; obtain ⟨u1, hu1, hf⟩ := hf
  refine x_topi hu1 ?_
  refine lv_istore_n (pc := 9) (lv' := [(0, .int u1)]) hx hb dJ13_bitCount_9 rfl hl (by decide) rfl (fun ls hl => ?_)
  refine lv_iload_n (pc := 10) hx hb dJ13_bitCount_10 rfl (lv_at hl 0 rfl) ?_
  refine lv_ldcw (pc := 11) (v := (ii 858993459)) hx hb X.1.2.2.2.1 (X.1.2.2.2.2 _ q1322) dJ13_bitCount_11 ?_
  refine lv_iand (pc := 14) hx hb dJ13_bitCount_14 ?_
  refine lv_iload_n (pc := 15) hx hb dJ13_bitCount_15 rfl (lv_at hl 0 rfl) ?_
  refine lv_iconst (pc := 16) (v := (ii 2)) hx hb dJ13_bitCount_16 (by decide) ?_
  refine lv_iushr (pc := 17) hx hb dJ13_bitCount_17 rfl ?_
  refine lv_ldcw (pc := 18) (v := (ii 858993459)) hx hb X.1.2.2.2.1 (X.1.2.2.2.2 _ q1322) dJ13_bitCount_18 ?_
  refine lv_iand (pc := 21) hx hb dJ13_bitCount_21 ?_
  refine lv_iadd (pc := 22) hx hb dJ13_bitCount_22 ?_
  replace hf := nm_s hf; obtain ⟨u2, hu2, hf⟩ := hf
  refine x_topi hu2 ?_
  refine lv_istore_n (pc := 23) (lv' := [(0, .int u2)]) hx hb dJ13_bitCount_23 rfl hl (by decide) rfl (fun ls hl => ?_)
  refine lv_iload_n (pc := 24) hx hb dJ13_bitCount_24 rfl (lv_at hl 0 rfl) ?_
  refine lv_iload_n (pc := 25) hx hb dJ13_bitCount_25 rfl (lv_at hl 0 rfl) ?_
  refine lv_iconst (pc := 26) (v := (ii 4)) hx hb dJ13_bitCount_26 (by decide) ?_
  refine lv_iushr (pc := 27) hx hb dJ13_bitCount_27 rfl ?_
  refine lv_iadd (pc := 28) hx hb dJ13_bitCount_28 ?_
  refine lv_ldcw (pc := 29) (v := (ii 252645135)) hx hb X.1.2.2.2.1 (X.1.2.2.2.2 _ q1323) dJ13_bitCount_29 ?_
  refine lv_iand (pc := 32) hx hb dJ13_bitCount_32 ?_
  replace hf := nm_s hf; obtain ⟨u3, hu3, hf⟩ := hf
  refine x_topi hu3 ?_
  refine lv_istore_n (pc := 33) (lv' := [(0, .int u3)]) hx hb dJ13_bitCount_33 rfl hl (by decide) rfl (fun ls hl => ?_)
  refine lv_iload_n (pc := 34) hx hb dJ13_bitCount_34 rfl (lv_at hl 0 rfl) ?_
  refine lv_iload_n (pc := 35) hx hb dJ13_bitCount_35 rfl (lv_at hl 0 rfl) ?_
  refine lv_bipush (pc := 36) (v := (ii 8)) hx hb dJ13_bitCount_36 (by decide) ?_
  refine lv_iushr (pc := 38) hx hb dJ13_bitCount_38 rfl ?_
  refine lv_iadd (pc := 39) hx hb dJ13_bitCount_39 ?_
  replace hf := nm_s hf; obtain ⟨u4, hu4, hf⟩ := hf
  refine x_topi hu4 ?_
  refine lv_istore_n (pc := 40) (lv' := [(0, .int u4)]) hx hb dJ13_bitCount_40 rfl hl (by decide) rfl (fun ls hl => ?_)
  refine lv_iload_n (pc := 41) hx hb dJ13_bitCount_41 rfl (lv_at hl 0 rfl) ?_
  refine lv_iload_n (pc := 42) hx hb dJ13_bitCount_42 rfl (lv_at hl 0 rfl) ?_
  refine lv_bipush (pc := 43) (v := (ii 16)) hx hb dJ13_bitCount_43 (by decide) ?_
  refine lv_iushr (pc := 45) hx hb dJ13_bitCount_45 rfl ?_
  refine lv_iadd (pc := 46) hx hb dJ13_bitCount_46 ?_
  replace hf := nm_s hf; obtain ⟨u5, hu5, hf⟩ := hf
  refine x_topi hu5 ?_
  refine lv_istore_n (pc := 47) (lv' := [(0, .int u5)]) hx hb dJ13_bitCount_47 rfl hl (by decide) rfl (fun ls hl => ?_)
  refine lv_iload_n (pc := 48) hx hb dJ13_bitCount_48 rfl (lv_at hl 0 rfl) ?_
  refine lv_bipush (pc := 49) (v := (ii 63)) hx hb dJ13_bitCount_49 (by decide) ?_
  refine lv_iand (pc := 51) hx hb dJ13_bitCount_51 ?_
  cases hf
  exact x_iret (pc := 52) X V hr dJ13_bitCount_52
theorem mJ13_bitCount (l : Launch) (D : va_G) (dA : Nat → ClassId) (s0 : Nat) {T : xT} {N : xT} {Z : Nat} {I : xI} {L : xL} {R : xR} {x0 : Int32} {ro : Int32} (hf : fJ13_bitCount x0 = some ro) : XMet l D dA s0 yJ13_bitCount (ws_ yJ13_bitCount cJ13_bitCount 1 ((some .int))) (0) (0) [.int x0] T N Z I L R (some (.int ro)) T N Z I L R 0 0 :=
  x_start (own := RJ13) rfl (by decide) (Nat.le_of_ble_eq_true rfl) (lv := [(0, .int x0)]) rfl (fun p e s m below meth c ls X hr hini V hl => wJ13_bitCount_e X hr hf V hl)
set_option maxHeartbeats 400000 in
set_option maxRecDepth 100000 in
theorem wX0_ones_e {p : Program} {l : Launch} {e : Env} {s : State} {m : MethodId} {args : Array Value} {below : List Frame} {meth : Method} {c : Code} {D : va_G} {dA : Nat → ClassId} {s0 : Nat} {T : xT} {N : xT} {Z : Nat} {I : xI} {L : xL} {R : xR} {H : Heap} {locs : List Loc} {ls : Array Slot} {x0 : Int32} {ro : Int32} (X : Cx D dA s0 p m c cX0_ones 1 s args RX0 meth) (hr : meth.sig.returnType = (some .int)) (hf : fX0_ones x0 = some ro) (V : Iv D dA s0 s T N Z I L R H locs) (hl : lv_has ls 1 [(0, .int x0)]) : W p l e { frames := 1, cells := 0, slots := 0, locals := 20 } s m args below meth c H locs 0 0 (MQ below (xQ D dA s0 (some (.int ro)) T N Z I L R) args s 0 0 (fun q => s0 ≤ q)) (F0 m 0 ls []) := by
  have hx := X.1.1
  have hb := X.1.2.1
  unfold fX0_ones at hf
  refine lv_iload_n (pc := 0) hx hb dX0_ones_0 rfl (lv_at hl 0 rfl) ?_
  replace hf := bs hf; obtain ⟨r1, hk_2, hf⟩ := hf
  refine x_callS0 (pc := 1) (As := [.int x0]) (rest := []) X V (mJ13_bitCount l D dA s0 hk_2) q1318 q1319 q154 q1320 hsJ13_bitCount ⟨Nat.le_of_ble_eq_true rfl, Nat.le_of_ble_eq_true rfl⟩ rfl hl.1 rfl (Nat.le_of_ble_eq_true rfl) dX0_ones_1 ⟨Nat.zero_le _, Nat.zero_le _⟩ (fun H locs V => W.eq (g2 := F0 m 4 ls [.int r1]) rfl ?_)
  cases hf
  exact x_iret (pc := 4) X V hr dX0_ones_4
theorem mX0_ones (l : Launch) (D : va_G) (dA : Nat → ClassId) (s0 : Nat) {T : xT} {N : xT} {Z : Nat} {I : xI} {L : xL} {R : xR} {x0 : Int32} {ro : Int32} (hf : fX0_ones x0 = some ro) : XMet l D dA s0 yX0_ones (ws_ yX0_ones cX0_ones 1 ((some .int))) (1) (20) [.int x0] T N Z I L R (some (.int ro)) T N Z I L R 0 0 :=
  x_start (own := RX0) rfl (by decide) (Nat.le_of_ble_eq_true rfl) (lv := [(0, .int x0)]) rfl (fun p e s m below meth c ls X hr hini V hl => wX0_ones_e X hr hf V hl)
set_option maxHeartbeats 400000 in
set_option maxRecDepth 100000 in
theorem wX0_ends_b4 {nf : Nat} {p : Program} {l : Launch} {e : Env} {s : State} {m : MethodId} {args : Array Value} {below : List Frame} {meth : Method} {c : Code} {D : va_G} {dA : Nat → ClassId} {s0 : Nat} {T : xT} {N : xT} {Z : Nat} {I : xI} {L : xL} {R : xR}  {ro : Int32} (X : Cx D dA s0 p m c cX0_ends 3 s args RX0 meth) (hr : meth.sig.returnType = (some .int))   (k : Nat) : ∀ {x0 : Nat} {x1 : Int32} {x2 : Int32} {H : Heap} {locs : List Loc} {ls : Array Slot} , fX0_ends_b4 nf T N I R k x0 x1 x2 = some ro → Iv D dA s0 s T N Z I L R H locs → lv_has ls 3 [(0, .ref x0), (1, .int x1), (2, .int x2)] → W p l e { frames := 0, cells := 0, slots := 0, locals := 0 } s m args below meth c H locs 0 0 (MQ below (xQ D dA s0 (some (.int ro)) T N Z I L R) args s 0 0 (fun q => s0 ≤ q)) (F0 m 4 ls []) := by
  have hx := X.1.1
  have hb := X.1.2.1
  induction k with
  | zero =>
    intro x0 x1 x2 H locs ls hf V hl
    exact absurd (show none = some _ from hf) (fun q => nomatch q)
  | succ k ih =>
    intro x0 x1 x2 H locs ls hf V hl
    rw [fX0_ends_b4] at hf
    refine lv_iload_n (pc := 4) hx hb dX0_ends_4 rfl (lv_at hl 2 rfl) ?_
    refine lv_aload_n (pc := 5) hx hb dX0_ends_5 rfl (lv_at hl 0 rfl) ?_
    replace hf := tg_s hf; obtain ⟨ht1, hf⟩ := hf
    replace hf := bs hf; obtain ⟨a2, ha2, hf⟩ := hf
    refine x_get (pc := 6) X V okX0 ht1 2 (by decide) q362 (v := va_rf (R x0 2)) rfl dX0_ends_6 ?_
    refine x_topr ha2 ?_
    replace hf := tg_s hf; obtain ⟨ht3, hf⟩ := hf
    refine x_getN (pc := 9) X V okX1 ht3 8 (by decide) q238 (v := .int (I a2 8)) rfl dX0_ends_9 ?_
    refine lv_icmp_ge (pc := 12) (tgt := 47) hx hb dX0_ends_12 (by decide) (fun c4 => ?_) (fun c4 => ?_)
    · replace hf := if_t hf c4
      refine lv_iload_n (pc := 47) hx hb dX0_ends_47 rfl (lv_at hl 1 rfl) ?_
      cases hf
      exact x_iret (pc := 48) X V hr dX0_ends_48
    · replace hf := if_f hf c4
      refine lv_iload_n (pc := 15) hx hb dX0_ends_15 rfl (lv_at hl 1 rfl) ?_
      refine lv_iconst (pc := 16) (v := (ii 1)) hx hb dX0_ends_16 (by decide) ?_
      refine lv_aload_n (pc := 17) hx hb dX0_ends_17 rfl (lv_at hl 0 rfl) ?_
      refine x_get (pc := 18) X V okX0 ht1 2 (by decide) q362 (v := va_rf (R x0 2)) rfl dX0_ends_18 ?_
      refine x_topr ha2 ?_
      replace hf := bs hf; obtain ⟨a5, ha5, hf⟩ := hf
      refine x_getN (pc := 21) X V okX1 ht3 1 (by decide) q224 (v := va_rf (R a2 1)) rfl dX0_ends_21 ?_
      refine x_topr ha5 ?_
      refine lv_iload_n (pc := 24) hx hb dX0_ends_24 rfl (lv_at hl 2 rfl) ?_
      replace hf := rA_s hf; obtain ⟨j6, hjj6, htj6, hij6, hf⟩ := hf
      refine x_iald (pc := 25) X V htj6 hij6 hjj6 dX0_ends_25 ?_
      refine lv_ishl (pc := 26) hx hb dX0_ends_26 ?_
      refine lv_iconst (pc := 27) (v := (ii 1)) hx hb dX0_ends_27 (by decide) ?_
      refine lv_aload_n (pc := 28) hx hb dX0_ends_28 rfl (lv_at hl 0 rfl) ?_
      refine x_get (pc := 29) X V okX0 ht1 2 (by decide) q362 (v := va_rf (R x0 2)) rfl dX0_ends_29 ?_
      refine x_topr ha2 ?_
      replace hf := bs hf; obtain ⟨a7, ha7, hf⟩ := hf
      refine x_getN (pc := 32) X V okX1 ht3 2 (by decide) q226 (v := va_rf (R a2 2)) rfl dX0_ends_32 ?_
      refine x_topr ha7 ?_
      refine lv_iload_n (pc := 35) hx hb dX0_ends_35 rfl (lv_at hl 2 rfl) ?_
      replace hf := rA_s hf; obtain ⟨j8, hjj8, htj8, hij8, hf⟩ := hf
      refine x_iald (pc := 36) X V htj8 hij8 hjj8 dX0_ends_36 ?_
      refine lv_ishl (pc := 37) hx hb dX0_ends_37 ?_
      refine lv_ior (pc := 38) hx hb dX0_ends_38 ?_
      refine lv_ior (pc := 39) hx hb dX0_ends_39 ?_
      replace hf := nm_s hf; obtain ⟨u9, hu9, hf⟩ := hf
      refine x_topi hu9 ?_
      refine lv_istore_n (pc := 40) (lv' := [(1, .int u9), (0, .ref x0), (2, .int x2)]) hx hb dX0_ends_40 rfl hl (by decide) rfl (fun ls hl => ?_)
      replace hf := nm_s hf; obtain ⟨u10, hu10, hf⟩ := hf
      refine lv_iinc (pc := 41) (v := u10) (lv' := [(2, .int u10), (1, .int u9), (0, .ref x0)]) hx hb dX0_ends_41 hl (k := 2) rfl (by rw [hu10]; rfl) (by decide) rfl (fun ls hl => ?_)
      refine lv_goto (pc := 44) (tgt := 4) hx hb dX0_ends_44 (by decide) ?_
      exact ih hf V (lv_sub hl [2, 1, 0] rfl)
set_option maxHeartbeats 400000 in
set_option maxRecDepth 100000 in
theorem wX0_ends_e {nf : Nat} {p : Program} {l : Launch} {e : Env} {s : State} {m : MethodId} {args : Array Value} {below : List Frame} {meth : Method} {c : Code} {D : va_G} {dA : Nat → ClassId} {s0 : Nat} {T : xT} {N : xT} {Z : Nat} {I : xI} {L : xL} {R : xR} {H : Heap} {locs : List Loc} {ls : Array Slot} {x0 : Nat} {ro : Int32} (X : Cx D dA s0 p m c cX0_ends 3 s args RX0 meth) (hr : meth.sig.returnType = (some .int)) (hf : fX0_ends nf T N I R x0 = some ro) (V : Iv D dA s0 s T N Z I L R H locs) (hl : lv_has ls 3 [(0, .ref x0)]) : W p l e { frames := 0, cells := 0, slots := 0, locals := 0 } s m args below meth c H locs 0 0 (MQ below (xQ D dA s0 (some (.int ro)) T N Z I L R) args s 0 0 (fun q => s0 ≤ q)) (F0 m 0 ls []) := by
  have hx := X.1.1
  have hb := X.1.2.1
  unfold fX0_ends at hf
  refine lv_iconst (pc := 0) (v := (ii 0)) hx hb dX0_ends_0 (by decide) ?_
  refine lv_istore_n (pc := 1) (lv' := [(1, .int (ii 0)), (0, .ref x0)]) hx hb dX0_ends_1 rfl hl (by decide) rfl (fun ls hl => ?_)
  refine lv_iconst (pc := 2) (v := (ii 0)) hx hb dX0_ends_2 (by decide) ?_
  refine lv_istore_n (pc := 3) (lv' := [(2, .int (ii 0)), (1, .int (ii 0)), (0, .ref x0)]) hx hb dX0_ends_3 rfl hl (by decide) rfl (fun ls hl => ?_)
  exact wX0_ends_b4 X hr nf hf V (lv_sub hl [2, 1, 0] rfl)
theorem mX0_ends {nf : Nat} (l : Launch) (D : va_G) (dA : Nat → ClassId) (s0 : Nat) {T : xT} {N : xT} {Z : Nat} {I : xI} {L : xL} {R : xR} {x0 : Nat} {ro : Int32} (hf : fX0_ends nf T N I R x0 = some ro) : XMet l D dA s0 yX0_ends (ws_ yX0_ends cX0_ends 3 ((some .int))) (0) (0) [.ref x0] T N Z I L R (some (.int ro)) T N Z I L R 0 0 :=
  x_start (own := RX0) rfl (by decide) (Nat.le_of_ble_eq_true rfl) (lv := [(0, .ref x0)]) rfl (fun p e s m below meth c ls X hr hini V hl => wX0_ends_e X hr hf V hl)
set_option maxHeartbeats 400000 in
set_option maxRecDepth 100000 in
theorem wX0_isOf_e {p : Program} {l : Launch} {e : Env} {s : State} {m : MethodId} {args : Array Value} {below : List Frame} {meth : Method} {c : Code} {D : va_G} {dA : Nat → ClassId} {s0 : Nat} {T : xT} {N : xT} {Z : Nat} {I : xI} {L : xL} {R : xR} {H : Heap} {locs : List Loc} {ls : Array Slot} {x0 : Int32} {x1 : Int32} {ro : Int32} (X : Cx D dA s0 p m c cX0_isOf 2 s args RX0 meth) (hr : meth.sig.returnType = (some .boolean)) (hf : fX0_isOf x0 x1 = some ro) (V : Iv D dA s0 s T N Z I L R H locs) (hl : lv_has ls 2 [(0, .int x0), (1, .int x1)]) : W p l e { frames := 0, cells := 0, slots := 0, locals := 0 } s m args below meth c H locs 0 0 (MQ below (xQ D dA s0 (some (.int ro)) T N Z I L R) args s 0 0 (fun q => s0 ≤ q)) (F0 m 0 ls []) := by
  have hx := X.1.1
  have hb := X.1.2.1
  unfold fX0_isOf at hf
  refine lv_iload_n (pc := 0) hx hb dX0_isOf_0 rfl (lv_at hl 0 rfl) ?_
  refine lv_iload_n (pc := 1) hx hb dX0_isOf_1 rfl (lv_at hl 1 rfl) ?_
  refine lv_ishr (pc := 2) hx hb dX0_isOf_2 ?_
  refine lv_iconst (pc := 3) (v := (ii 1)) hx hb dX0_isOf_3 (by decide) ?_
  refine lv_iand (pc := 4) hx hb dX0_isOf_4 ?_
  refine lv_iconst (pc := 5) (v := (ii 1)) hx hb dX0_isOf_5 (by decide) ?_
  refine lv_icmp_ne (pc := 6) (tgt := 13) hx hb dX0_isOf_6 (by decide) (fun c1 => ?_) (fun c1 => ?_)
  · replace hf := if_f hf c1
    refine lv_iconst (pc := 13) (v := (ii 0)) hx hb dX0_isOf_13 (by decide) ?_
    cases hf
    exact x_zret (pc := 14) X V hr (by decide) dX0_isOf_14
  · replace hf := if_t hf c1
    refine lv_iconst (pc := 9) (v := (ii 1)) hx hb dX0_isOf_9 (by decide) ?_
    refine lv_goto (pc := 10) (tgt := 14) hx hb dX0_isOf_10 (by decide) ?_
    cases hf
    exact x_zret (pc := 14) X V hr (by decide) dX0_isOf_14
theorem mX0_isOf (l : Launch) (D : va_G) (dA : Nat → ClassId) (s0 : Nat) {T : xT} {N : xT} {Z : Nat} {I : xI} {L : xL} {R : xR} {x0 : Int32} {x1 : Int32} {ro : Int32} (hf : fX0_isOf x0 x1 = some ro) : XMet l D dA s0 yX0_isOf (ws_ yX0_isOf cX0_isOf 2 ((some .boolean))) (0) (0) [.int x0, .int x1] T N Z I L R (some (.int ro)) T N Z I L R 0 0 :=
  x_start (own := RX0) rfl (by decide) (Nat.le_of_ble_eq_true rfl) (lv := [(0, .int x0), (1, .int x1)]) rfl (fun p e s m below meth c ls X hr hini V hl => wX0_isOf_e X hr hf V hl)
set_option maxHeartbeats 400000 in
set_option maxRecDepth 100000 in
theorem wX0_areNear_b34 {nf : Nat} {p : Program} {l : Launch} {e : Env} {s : State} {m : MethodId} {args : Array Value} {below : List Frame} {meth : Method} {c : Code} {D : va_G} {dA : Nat → ClassId} {s0 : Nat} {T : xT} {N : xT} {Z : Nat} {I : xI} {L : xL} {R : xR} {kk8 : Nat → Int32 → Int32 → Int32 → Int32 → Option (Int32)} {ro : Int32} (X : Cx D dA s0 p m c cX0_areNear 7 s args RX0 meth) (hr : meth.sig.returnType = (some .boolean)) (hk8 : ∀ {x0 : Nat} {x1 : Int32} {x2 : Int32} {x3 : Int32} {x4 : Int32} {H : Heap} {locs : List Loc} {ls : Array Slot} , kk8 x0 x1 x2 x3 x4 = some ro → Iv D dA s0 s T N Z I L R H locs → lv_has ls 7 [(0, .ref x0), (1, .int x1), (2, .int x2), (3, .int x3), (4, .int x4)] → W p l e { frames := 1, cells := 0, slots := 0, locals := 22 } s m args below meth c H locs 0 0 (MQ below (xQ D dA s0 (some (.int ro)) T N Z I L R) args s 0 0 (fun q => s0 ≤ q)) (F0 m 8 ls []))  (k : Nat) : ∀ {x0 : Nat} {x1 : Int32} {x2 : Int32} {x3 : Int32} {x4 : Int32} {x5 : Int32} {x6 : Int32} {H : Heap} {locs : List Loc} {ls : Array Slot} , fX0_areNear_b34 nf kk8 T N I R k x0 x1 x2 x3 x4 x5 x6 = some ro → Iv D dA s0 s T N Z I L R H locs → lv_has ls 7 [(0, .ref x0), (1, .int x1), (2, .int x2), (3, .int x3), (4, .int x4), (5, .int x5), (6, .int x6)] → W p l e { frames := 1, cells := 0, slots := 0, locals := 22 } s m args below meth c H locs 0 0 (MQ below (xQ D dA s0 (some (.int ro)) T N Z I L R) args s 0 0 (fun q => s0 ≤ q)) (F0 m 34 ls []) := by
  have hx := X.1.1
  have hb := X.1.2.1
  induction k with
  | zero =>
    intro x0 x1 x2 x3 x4 x5 x6 H locs ls hf V hl
    exact absurd (show none = some _ from hf) (fun q => nomatch q)
  | succ k ih =>
    intro x0 x1 x2 x3 x4 x5 x6 H locs ls hf V hl
    rw [fX0_areNear_b34] at hf
    refine lv_iload (pc := 34) hx hb dX0_areNear_34 (lv_at hl 6 rfl) ?_
    refine lv_bipush (pc := 36) (v := (ii 8)) hx hb dX0_areNear_36 (by decide) ?_
    refine lv_icmp_ge (pc := 38) (tgt := 78) hx hb dX0_areNear_38 (by decide) (fun c1 => ?_) (fun c1 => ?_)
    · replace hf := if_t hf c1
      refine lv_iload (pc := 78) hx hb dX0_areNear_78 (lv_at hl 5 rfl) ?_
      refine lv_if_ne (pc := 80) (tgt := 85) hx hb dX0_areNear_80 (by decide) (fun c2 => ?_) (fun c2 => ?_)
      · replace hf := if_f hf c2
        replace hf := nm_s hf; obtain ⟨u3, hu3, hf⟩ := hf
        refine lv_iinc (pc := 85) (v := u3) (lv' := [(4, .int u3), (0, .ref x0), (1, .int x1), (2, .int x2), (3, .int x3), (5, .int x5), (6, .int x6)]) hx hb dX0_areNear_85 hl (k := 4) rfl (by rw [hu3]; rfl) (by decide) rfl (fun ls hl => ?_)
        refine lv_goto (pc := 88) (tgt := 8) hx hb dX0_areNear_88 (by decide) ?_
        exact hk8 hf V (lv_sub hl [1, 2, 3, 4, 0] rfl)
      · replace hf := if_t hf c2
        refine lv_iconst (pc := 83) (v := (ii 0)) hx hb dX0_areNear_83 (by decide) ?_
        cases hf
        exact x_zret (pc := 84) X V hr (by decide) dX0_areNear_84
    · replace hf := if_f hf c1
      refine lv_iload (pc := 41) hx hb dX0_areNear_41 (lv_at hl 5 rfl) ?_
      refine lv_iload_n (pc := 43) hx hb dX0_areNear_43 rfl (lv_at hl 1 rfl) ?_
      refine lv_iload (pc := 44) hx hb dX0_areNear_44 (lv_at hl 6 rfl) ?_
      replace hf := bs hf; obtain ⟨r4, hk_5, hf⟩ := hf
      refine x_callS0 (pc := 46) (As := [.int x1, .int x6]) (rest := [.int x5]) X V (mX0_isOf l D dA s0 hk_5) q1332 q1333 q119 q1334 hsX0_isOf ⟨Nat.le_of_ble_eq_true rfl, Nat.le_of_ble_eq_true rfl⟩ rfl hl.1 rfl (Nat.le_of_ble_eq_true rfl) dX0_areNear_46 ⟨Nat.zero_le _, Nat.zero_le _⟩ (fun H locs V => W.eq (g2 := F0 m 49 ls [.int r4, .int x5]) rfl ?_)
      refine lv_if_eq (pc := 49) (tgt := 68) hx hb dX0_areNear_49 (by decide) (fun c6 => ?_) (fun c6 => ?_)
      · replace hf := if_t hf c6
        refine lv_iconst (pc := 68) (v := (ii 0)) hx hb dX0_areNear_68 (by decide) ?_
        refine lv_ior (pc := 69) hx hb dX0_areNear_69 ?_
        replace hf := nm_s hf; obtain ⟨u7, hu7, hf⟩ := hf
        refine x_topi hu7 ?_
        refine lv_istore (pc := 70) (lv' := [(5, .int u7), (0, .ref x0), (1, .int x1), (2, .int x2), (3, .int x3), (4, .int x4), (6, .int x6)]) hx hb dX0_areNear_70 hl (by decide) rfl (fun ls hl => ?_)
        replace hf := nm_s hf; obtain ⟨u8, hu8, hf⟩ := hf
        refine lv_iinc (pc := 72) (v := u8) (lv' := [(6, .int u8), (5, .int u7), (0, .ref x0), (1, .int x1), (2, .int x2), (3, .int x3), (4, .int x4)]) hx hb dX0_areNear_72 hl (k := 6) rfl (by rw [hu8]; rfl) (by decide) rfl (fun ls hl => ?_)
        refine lv_goto (pc := 75) (tgt := 34) hx hb dX0_areNear_75 (by decide) ?_
        exact ih hf V (lv_sub hl [2, 3, 4, 5, 6, 1, 0] rfl)
      · replace hf := if_f hf c6
        refine lv_aload_n (pc := 52) hx hb dX0_areNear_52 rfl (lv_at hl 0 rfl) ?_
        refine lv_iload (pc := 53) hx hb dX0_areNear_53 (lv_at hl 6 rfl) ?_
        refine lv_iload (pc := 55) hx hb dX0_areNear_55 (lv_at hl 4 rfl) ?_
        replace hf := tg_s hf; obtain ⟨ht11, hf⟩ := hf
        replace hf := bs hf; obtain ⟨r9, hk_10, hf⟩ := hf
        refine x_callV0 (pc := 57) (As := [.int x6, .int x4]) (rest := [.int x5]) X V (mX0_farOf l D dA s0 hk_10) okX0 ht11 q1294 q1296 qs29 q119 q1297 ⟨rfl, hsX0_farOf⟩ ⟨Nat.le_of_ble_eq_true rfl, Nat.le_of_ble_eq_true rfl⟩ rfl hl.1 rfl (Nat.le_of_ble_eq_true rfl) dX0_areNear_57 ⟨Nat.zero_le _, Nat.zero_le _⟩ (fun H locs V => W.eq (g2 := F0 m 60 ls [.int r9, .int x5]) rfl ?_)
        refine lv_iload_n (pc := 60) hx hb dX0_areNear_60 rfl (lv_at hl 2 rfl) ?_
        refine lv_icmp_gt (pc := 61) (tgt := 68) hx hb dX0_areNear_61 (by decide) (fun c12 => ?_) (fun c12 => ?_)
        · replace hf := if_t hf c12
          refine lv_iconst (pc := 68) (v := (ii 0)) hx hb dX0_areNear_68 (by decide) ?_
          refine lv_ior (pc := 69) hx hb dX0_areNear_69 ?_
          replace hf := nm_s hf; obtain ⟨u13, hu13, hf⟩ := hf
          refine x_topi hu13 ?_
          refine lv_istore (pc := 70) (lv' := [(5, .int u13), (0, .ref x0), (1, .int x1), (2, .int x2), (3, .int x3), (4, .int x4), (6, .int x6)]) hx hb dX0_areNear_70 hl (by decide) rfl (fun ls hl => ?_)
          replace hf := nm_s hf; obtain ⟨u14, hu14, hf⟩ := hf
          refine lv_iinc (pc := 72) (v := u14) (lv' := [(6, .int u14), (5, .int u13), (0, .ref x0), (1, .int x1), (2, .int x2), (3, .int x3), (4, .int x4)]) hx hb dX0_areNear_72 hl (k := 6) rfl (by rw [hu14]; rfl) (by decide) rfl (fun ls hl => ?_)
          refine lv_goto (pc := 75) (tgt := 34) hx hb dX0_areNear_75 (by decide) ?_
          exact ih hf V (lv_sub hl [2, 3, 4, 5, 6, 1, 0] rfl)
        · replace hf := if_f hf c12
          refine lv_iconst (pc := 64) (v := (ii 1)) hx hb dX0_areNear_64 (by decide) ?_
          refine lv_goto (pc := 65) (tgt := 69) hx hb dX0_areNear_65 (by decide) ?_
          refine lv_ior (pc := 69) hx hb dX0_areNear_69 ?_
          replace hf := nm_s hf; obtain ⟨u15, hu15, hf⟩ := hf
          refine x_topi hu15 ?_
          refine lv_istore (pc := 70) (lv' := [(5, .int u15), (0, .ref x0), (1, .int x1), (2, .int x2), (3, .int x3), (4, .int x4), (6, .int x6)]) hx hb dX0_areNear_70 hl (by decide) rfl (fun ls hl => ?_)
          replace hf := nm_s hf; obtain ⟨u16, hu16, hf⟩ := hf
          refine lv_iinc (pc := 72) (v := u16) (lv' := [(6, .int u16), (5, .int u15), (0, .ref x0), (1, .int x1), (2, .int x2), (3, .int x3), (4, .int x4)]) hx hb dX0_areNear_72 hl (k := 6) rfl (by rw [hu16]; rfl) (by decide) rfl (fun ls hl => ?_)
          refine lv_goto (pc := 75) (tgt := 34) hx hb dX0_areNear_75 (by decide) ?_
          exact ih hf V (lv_sub hl [2, 3, 4, 5, 6, 1, 0] rfl)
set_option maxHeartbeats 400000 in
set_option maxRecDepth 100000 in
theorem wX0_areNear_b8 {nf : Nat} {p : Program} {l : Launch} {e : Env} {s : State} {m : MethodId} {args : Array Value} {below : List Frame} {meth : Method} {c : Code} {D : va_G} {dA : Nat → ClassId} {s0 : Nat} {T : xT} {N : xT} {Z : Nat} {I : xI} {L : xL} {R : xR}  {ro : Int32} (X : Cx D dA s0 p m c cX0_areNear 7 s args RX0 meth) (hr : meth.sig.returnType = (some .boolean))   (k : Nat) : ∀ {x0 : Nat} {x1 : Int32} {x2 : Int32} {x3 : Int32} {x4 : Int32} {H : Heap} {locs : List Loc} {ls : Array Slot} , fX0_areNear_b8 nf T N I R k x0 x1 x2 x3 x4 = some ro → Iv D dA s0 s T N Z I L R H locs → lv_has ls 7 [(0, .ref x0), (1, .int x1), (2, .int x2), (3, .int x3), (4, .int x4)] → W p l e { frames := 1, cells := 0, slots := 0, locals := 22 } s m args below meth c H locs 0 0 (MQ below (xQ D dA s0 (some (.int ro)) T N Z I L R) args s 0 0 (fun q => s0 ≤ q)) (F0 m 8 ls []) := by
  have hx := X.1.1
  have hb := X.1.2.1
  induction k with
  | zero =>
    intro x0 x1 x2 x3 x4 H locs ls hf V hl
    exact absurd (show none = some _ from hf) (fun q => nomatch q)
  | succ k ih =>
    intro x0 x1 x2 x3 x4 H locs ls hf V hl
    rw [fX0_areNear_b8] at hf
    refine lv_iload (pc := 8) hx hb dX0_areNear_8 (lv_at hl 4 rfl) ?_
    refine lv_bipush (pc := 10) (v := (ii 8)) hx hb dX0_areNear_10 (by decide) ?_
    refine lv_icmp_ge (pc := 12) (tgt := 91) hx hb dX0_areNear_12 (by decide) (fun c1 => ?_) (fun c1 => ?_)
    · replace hf := if_t hf c1
      refine lv_iconst (pc := 91) (v := (ii 1)) hx hb dX0_areNear_91 (by decide) ?_
      cases hf
      exact x_zret (pc := 92) X V hr (by decide) dX0_areNear_92
    · replace hf := if_f hf c1
      refine lv_iload_n (pc := 15) hx hb dX0_areNear_15 rfl (lv_at hl 3 rfl) ?_
      refine lv_iload (pc := 16) hx hb dX0_areNear_16 (lv_at hl 4 rfl) ?_
      replace hf := bs hf; obtain ⟨r2, hk_3, hf⟩ := hf
      refine x_callS0 (pc := 18) (As := [.int x3, .int x4]) (rest := []) X V (mX0_isOf l D dA s0 hk_3) q1332 q1333 q119 q1334 hsX0_isOf ⟨Nat.le_of_ble_eq_true rfl, Nat.le_of_ble_eq_true rfl⟩ rfl hl.1 rfl (Nat.le_of_ble_eq_true rfl) dX0_areNear_18 ⟨Nat.zero_le _, Nat.zero_le _⟩ (fun H locs V => W.eq (g2 := F0 m 21 ls [.int r2]) rfl ?_)
      refine lv_if_ne (pc := 21) (tgt := 28) hx hb dX0_areNear_21 (by decide) (fun c4 => ?_) (fun c4 => ?_)
      · replace hf := if_f hf c4
        refine lv_iconst (pc := 28) (v := (ii 0)) hx hb dX0_areNear_28 (by decide) ?_
        refine lv_istore (pc := 29) (lv' := [(5, .int (ii 0)), (0, .ref x0), (1, .int x1), (2, .int x2), (3, .int x3), (4, .int x4)]) hx hb dX0_areNear_29 hl (by decide) rfl (fun ls hl => ?_)
        refine lv_iconst (pc := 31) (v := (ii 0)) hx hb dX0_areNear_31 (by decide) ?_
        refine lv_istore (pc := 32) (lv' := [(6, .int (ii 0)), (5, .int (ii 0)), (0, .ref x0), (1, .int x1), (2, .int x2), (3, .int x3), (4, .int x4)]) hx hb dX0_areNear_32 hl (by decide) rfl (fun ls hl => ?_)
        exact wX0_areNear_b34 X hr ih nf hf V (lv_sub hl [2, 3, 4, 5, 6, 1, 0] rfl)
      · replace hf := if_t hf c4
        refine lv_iconst (pc := 24) (v := (ii 1)) hx hb dX0_areNear_24 (by decide) ?_
        refine lv_goto (pc := 25) (tgt := 29) hx hb dX0_areNear_25 (by decide) ?_
        refine lv_istore (pc := 29) (lv' := [(5, .int (ii 1)), (0, .ref x0), (1, .int x1), (2, .int x2), (3, .int x3), (4, .int x4)]) hx hb dX0_areNear_29 hl (by decide) rfl (fun ls hl => ?_)
        refine lv_iconst (pc := 31) (v := (ii 0)) hx hb dX0_areNear_31 (by decide) ?_
        refine lv_istore (pc := 32) (lv' := [(6, .int (ii 0)), (5, .int (ii 1)), (0, .ref x0), (1, .int x1), (2, .int x2), (3, .int x3), (4, .int x4)]) hx hb dX0_areNear_32 hl (by decide) rfl (fun ls hl => ?_)
        exact wX0_areNear_b34 X hr ih nf hf V (lv_sub hl [2, 3, 4, 5, 6, 1, 0] rfl)
set_option maxHeartbeats 400000 in
set_option maxRecDepth 100000 in
theorem wX0_areNear_e {nf : Nat} {p : Program} {l : Launch} {e : Env} {s : State} {m : MethodId} {args : Array Value} {below : List Frame} {meth : Method} {c : Code} {D : va_G} {dA : Nat → ClassId} {s0 : Nat} {T : xT} {N : xT} {Z : Nat} {I : xI} {L : xL} {R : xR} {H : Heap} {locs : List Loc} {ls : Array Slot} {x0 : Nat} {x1 : Int32} {x2 : Int32} {ro : Int32} (X : Cx D dA s0 p m c cX0_areNear 7 s args RX0 meth) (hr : meth.sig.returnType = (some .boolean)) (hf : fX0_areNear nf T N I R x0 x1 x2 = some ro) (V : Iv D dA s0 s T N Z I L R H locs) (hl : lv_has ls 7 [(0, .ref x0), (1, .int x1), (2, .int x2)]) : W p l e { frames := 1, cells := 0, slots := 0, locals := 22 } s m args below meth c H locs 0 0 (MQ below (xQ D dA s0 (some (.int ro)) T N Z I L R) args s 0 0 (fun q => s0 ≤ q)) (F0 m 0 ls []) := by
  have hx := X.1.1
  have hb := X.1.2.1
  unfold fX0_areNear at hf
  refine lv_aload_n (pc := 0) hx hb dX0_areNear_0 rfl (lv_at hl 0 rfl) ?_
  replace hf := tg_s hf; obtain ⟨ht3, hf⟩ := hf
  replace hf := bs hf; obtain ⟨r1, hk_2, hf⟩ := hf
  refine x_callV0 (pc := 1) (As := []) (rest := []) X V (mX0_ends l D dA s0 hk_2) okX0 ht3 q1328 q1330 qs32 q119 q1331 ⟨rfl, hsX0_ends⟩ ⟨Nat.le_of_ble_eq_true rfl, Nat.le_of_ble_eq_true rfl⟩ rfl hl.1 rfl (Nat.le_of_ble_eq_true rfl) dX0_areNear_1 ⟨Nat.zero_le _, Nat.zero_le _⟩ (fun H locs V => W.eq (g2 := F0 m 4 ls [.int r1]) rfl ?_)
  refine lv_istore_n (pc := 4) (lv' := [(3, .int r1), (0, .ref x0), (1, .int x1), (2, .int x2)]) hx hb dX0_areNear_4 rfl hl (by decide) rfl (fun ls hl => ?_)
  refine lv_iconst (pc := 5) (v := (ii 0)) hx hb dX0_areNear_5 (by decide) ?_
  refine lv_istore (pc := 6) (lv' := [(4, .int (ii 0)), (3, .int r1), (0, .ref x0), (1, .int x1), (2, .int x2)]) hx hb dX0_areNear_6 hl (by decide) rfl (fun ls hl => ?_)
  exact wX0_areNear_b8 X hr nf hf V (lv_sub hl [2, 3, 4, 1, 0] rfl)
theorem mX0_areNear {nf : Nat} (l : Launch) (D : va_G) (dA : Nat → ClassId) (s0 : Nat) {T : xT} {N : xT} {Z : Nat} {I : xI} {L : xL} {R : xR} {x0 : Nat} {x1 : Int32} {x2 : Int32} {ro : Int32} (hf : fX0_areNear nf T N I R x0 x1 x2 = some ro) : XMet l D dA s0 yX0_areNear (ws_ yX0_areNear cX0_areNear 7 ((some .boolean))) (1) (22) [.ref x0, .int x1, .int x2] T N Z I L R (some (.int ro)) T N Z I L R 0 0 :=
  x_start (own := RX0) rfl (by decide) (Nat.le_of_ble_eq_true rfl) (lv := [(0, .ref x0), (1, .int x1), (2, .int x2)]) rfl (fun p e s m below meth c ls X hr hini V hl => wX0_areNear_e X hr hf V hl)
set_option maxHeartbeats 400000 in
set_option maxRecDepth 100000 in
theorem wX0_posts_b32 {nf : Nat} {p : Program} {l : Launch} {e : Env} {s : State} {m : MethodId} {args : Array Value} {below : List Frame} {meth : Method} {c : Code} {D : va_G} {dA : Nat → ClassId} {s0 : Nat} {T : xT} {N : xT} {Z : Nat} {L : xL} {R : xR}  {ro : Int32} {Io : xI} (X : Cx D dA s0 p m c cX0_posts 5 s args RX0 meth) (hr : meth.sig.returnType = (some .int))   (k : Nat) : ∀ {I : xI} {x0 : Nat} {x1 : Int32} {x2 : Int32} {x3 : Int32} {x4 : Int32} {H : Heap} {locs : List Loc} {ls : Array Slot} , fX0_posts_b32 nf T N R k I x0 x1 x2 x3 x4 = some (ro, Io) → Iv D dA s0 s T N Z I L R H locs → lv_has ls 5 [(0, .ref x0), (1, .int x1), (2, .int x2), (3, .int x3), (4, .int x4)] → W p l e { frames := 2, cells := 0, slots := 0, locals := 48 } s m args below meth c H locs 0 0 (MQ below (xQ D dA s0 (some (.int ro)) T N Z Io L R) args s 0 0 (fun q => s0 ≤ q)) (F0 m 32 ls []) := by
  have hx := X.1.1
  have hb := X.1.2.1
  induction k with
  | zero =>
    intro I x0 x1 x2 x3 x4 H locs ls hf V hl
    exact absurd (show none = some _ from hf) (fun q => nomatch q)
  | succ k ih =>
    intro I x0 x1 x2 x3 x4 H locs ls hf V hl
    rw [fX0_posts_b32] at hf
    refine lv_iload (pc := 32) hx hb dX0_posts_32 (lv_at hl 4 rfl) ?_
    refine lv_sipush (pc := 34) (v := (ii 255)) hx hb dX0_posts_34 (by decide) ?_
    refine lv_icmp_ge (pc := 37) (tgt := 71) hx hb dX0_posts_37 (by decide) (fun c1 => ?_) (fun c1 => ?_)
    · replace hf := if_t hf c1
      refine lv_iload_n (pc := 71) hx hb dX0_posts_71 rfl (lv_at hl 2 rfl) ?_
      refine lv_if_ne (pc := 72) (tgt := 82) hx hb dX0_posts_72 (by decide) (fun c2 => ?_) (fun c2 => ?_)
      · replace hf := if_f hf c2
        refine lv_iload_n (pc := 82) hx hb dX0_posts_82 rfl (lv_at hl 3 rfl) ?_
        cases hf
        exact x_iret (pc := 83) X V hr dX0_posts_83
      · replace hf := if_t hf c2
        refine lv_iload_n (pc := 75) hx hb dX0_posts_75 rfl (lv_at hl 3 rfl) ?_
        replace hf := bs hf; obtain ⟨r3, hk_4, hf⟩ := hf
        refine x_callS0 (pc := 76) (As := [.int x3]) (rest := []) X V (mX0_ones l D dA s0 hk_4) q1315 q1316 q119 q1317 hsX0_ones ⟨Nat.le_of_ble_eq_true rfl, Nat.le_of_ble_eq_true rfl⟩ rfl hl.1 rfl (Nat.le_of_ble_eq_true rfl) dX0_posts_76 ⟨Nat.zero_le _, Nat.zero_le _⟩ (fun H locs V => W.eq (g2 := F0 m 79 ls [.int r3]) rfl ?_)
        refine lv_goto (pc := 79) (tgt := 83) hx hb dX0_posts_79 (by decide) ?_
        cases hf
        exact x_iret (pc := 83) X V hr dX0_posts_83
    · replace hf := if_f hf c1
      refine lv_iload (pc := 40) hx hb dX0_posts_40 (lv_at hl 4 rfl) ?_
      replace hf := bs hf; obtain ⟨r5, hk_6, hf⟩ := hf
      refine x_callS0 (pc := 42) (As := [.int x4]) (rest := []) X V (mX0_ones l D dA s0 hk_6) q1315 q1316 q119 q1317 hsX0_ones ⟨Nat.le_of_ble_eq_true rfl, Nat.le_of_ble_eq_true rfl⟩ rfl hl.1 rfl (Nat.le_of_ble_eq_true rfl) dX0_posts_42 ⟨Nat.zero_le _, Nat.zero_le _⟩ (fun H locs V => W.eq (g2 := F0 m 45 ls [.int r5]) rfl ?_)
      refine lv_iload_n (pc := 45) hx hb dX0_posts_45 rfl (lv_at hl 3 rfl) ?_
      replace hf := bs hf; obtain ⟨r7, hk_8, hf⟩ := hf
      refine x_callS0 (pc := 46) (As := [.int x3]) (rest := [.int r5]) X V (mX0_ones l D dA s0 hk_8) q1315 q1316 q119 q1317 hsX0_ones ⟨Nat.le_of_ble_eq_true rfl, Nat.le_of_ble_eq_true rfl⟩ rfl hl.1 rfl (Nat.le_of_ble_eq_true rfl) dX0_posts_46 ⟨Nat.zero_le _, Nat.zero_le _⟩ (fun H locs V => W.eq (g2 := F0 m 49 ls [.int r7, .int r5]) rfl ?_)
      refine lv_icmp_ge (pc := 49) (tgt := 65) hx hb dX0_posts_49 (by decide) (fun c9 => ?_) (fun c9 => ?_)
      · replace hf := if_t hf c9
        replace hf := nm_s hf; obtain ⟨u10, hu10, hf⟩ := hf
        refine lv_iinc (pc := 65) (v := u10) (lv' := [(4, .int u10), (0, .ref x0), (1, .int x1), (2, .int x2), (3, .int x3)]) hx hb dX0_posts_65 hl (k := 4) rfl (by rw [hu10]; rfl) (by decide) rfl (fun ls hl => ?_)
        refine lv_goto (pc := 68) (tgt := 32) hx hb dX0_posts_68 (by decide) ?_
        exact ih hf V (lv_sub hl [1, 2, 3, 4, 0] rfl)
      · replace hf := if_f hf c9
        refine lv_aload_n (pc := 52) hx hb dX0_posts_52 rfl (lv_at hl 0 rfl) ?_
        refine lv_iload (pc := 53) hx hb dX0_posts_53 (lv_at hl 4 rfl) ?_
        refine lv_iload_n (pc := 55) hx hb dX0_posts_55 rfl (lv_at hl 1 rfl) ?_
        replace hf := tg_s hf; obtain ⟨ht13, hf⟩ := hf
        replace hf := bs hf; obtain ⟨r11, hk_12, hf⟩ := hf
        refine x_callV0 (pc := 56) (As := [.int x4, .int x1]) (rest := []) X V (mX0_areNear l D dA s0 hk_12) okX0 ht13 q1324 q1326 qs31 q119 q1327 ⟨rfl, hsX0_areNear⟩ ⟨Nat.le_of_ble_eq_true rfl, Nat.le_of_ble_eq_true rfl⟩ rfl hl.1 rfl (Nat.le_of_ble_eq_true rfl) dX0_posts_56 ⟨Nat.zero_le _, Nat.zero_le _⟩ (fun H locs V => W.eq (g2 := F0 m 59 ls [.int r11]) rfl ?_)
        refine lv_if_eq (pc := 59) (tgt := 65) hx hb dX0_posts_59 (by decide) (fun c14 => ?_) (fun c14 => ?_)
        · replace hf := if_t hf c14
          replace hf := nm_s hf; obtain ⟨u15, hu15, hf⟩ := hf
          refine lv_iinc (pc := 65) (v := u15) (lv' := [(4, .int u15), (0, .ref x0), (1, .int x1), (2, .int x2), (3, .int x3)]) hx hb dX0_posts_65 hl (k := 4) rfl (by rw [hu15]; rfl) (by decide) rfl (fun ls hl => ?_)
          refine lv_goto (pc := 68) (tgt := 32) hx hb dX0_posts_68 (by decide) ?_
          exact ih hf V (lv_sub hl [1, 2, 3, 4, 0] rfl)
        · replace hf := if_f hf c14
          refine lv_iload (pc := 62) hx hb dX0_posts_62 (lv_at hl 4 rfl) ?_
          refine lv_istore_n (pc := 64) (lv' := [(3, .int x4), (0, .ref x0), (1, .int x1), (2, .int x2), (4, .int x4)]) hx hb dX0_posts_64 rfl hl (by decide) rfl (fun ls hl => ?_)
          replace hf := nm_s hf; obtain ⟨u16, hu16, hf⟩ := hf
          refine lv_iinc (pc := 65) (v := u16) (lv' := [(4, .int u16), (3, .int x4), (0, .ref x0), (1, .int x1), (2, .int x2)]) hx hb dX0_posts_65 hl (k := 4) rfl (by rw [hu16]; rfl) (by decide) rfl (fun ls hl => ?_)
          refine lv_goto (pc := 68) (tgt := 32) hx hb dX0_posts_68 (by decide) ?_
          exact ih hf V (lv_sub hl [2, 3, 4, 1, 0] rfl)
set_option maxHeartbeats 400000 in
set_option maxRecDepth 100000 in
theorem wX0_posts_e {nf : Nat} {p : Program} {l : Launch} {e : Env} {s : State} {m : MethodId} {args : Array Value} {below : List Frame} {meth : Method} {c : Code} {D : va_G} {dA : Nat → ClassId} {s0 : Nat} {T : xT} {N : xT} {Z : Nat} {I : xI} {L : xL} {R : xR} {H : Heap} {locs : List Loc} {ls : Array Slot} {x0 : Nat} {x1 : Int32} {x2 : Int32} {ro : Int32} {Io : xI} (X : Cx D dA s0 p m c cX0_posts 5 s args RX0 meth) (hr : meth.sig.returnType = (some .int)) (hf : fX0_posts nf T N I R x0 x1 x2 = some (ro, Io)) (V : Iv D dA s0 s T N Z I L R H locs) (hl : lv_has ls 5 [(0, .ref x0), (1, .int x1), (2, .int x2)]) : W p l e { frames := 2, cells := 0, slots := 0, locals := 48 } s m args below meth c H locs 0 0 (MQ below (xQ D dA s0 (some (.int ro)) T N Z Io L R) args s 0 0 (fun q => s0 ≤ q)) (F0 m 0 ls []) := by
  have hx := X.1.1
  have hb := X.1.2.1
  unfold fX0_posts at hf
  refine lv_iload_n (pc := 0) hx hb dX0_posts_0 rfl (lv_at hl 1 rfl) ?_
  refine lv_iconst (pc := 1) (v := (ii 0)) hx hb dX0_posts_1 (by decide) ?_
  refine lv_bipush (pc := 2) (v := (ii 50)) hx hb dX0_posts_2 (by decide) ?_
  replace hf := bs hf; obtain ⟨r1, hk_2, hf⟩ := hf
  refine x_callS0 (pc := 4) (As := [.int x1, .int (ii 0), .int (ii 50)]) (rest := []) X V (mX0_in l D dA s0 hk_2) q449 q450 q119 q451 hsX0_in ⟨Nat.le_of_ble_eq_true rfl, Nat.le_of_ble_eq_true rfl⟩ rfl hl.1 rfl (Nat.le_of_ble_eq_true rfl) dX0_posts_4 ⟨Nat.zero_le _, Nat.zero_le _⟩ (fun H locs V => W.eq (g2 := F0 m 7 ls [.int r1]) rfl ?_)
  refine lv_if_eq (pc := 7) (tgt := 19) hx hb dX0_posts_7 (by decide) (fun c3 => ?_) (fun c3 => ?_)
  · replace hf := if_t hf c3
    refine lv_iconst (pc := 19) (v := (-1 : Int32)) hx hb dX0_posts_19 (by decide) ?_
    cases hf
    exact x_iret (pc := 20) X V hr dX0_posts_20
  · replace hf := if_f hf c3
    refine lv_iload_n (pc := 10) hx hb dX0_posts_10 rfl (lv_at hl 2 rfl) ?_
    refine lv_iconst (pc := 11) (v := (ii 0)) hx hb dX0_posts_11 (by decide) ?_
    refine lv_iconst (pc := 12) (v := (ii 1)) hx hb dX0_posts_12 (by decide) ?_
    replace hf := bs hf; obtain ⟨r4, hk_5, hf⟩ := hf
    refine x_callS0 (pc := 13) (As := [.int x2, .int (ii 0), .int (ii 1)]) (rest := []) X V (mX0_in l D dA s0 hk_5) q449 q450 q119 q451 hsX0_in ⟨Nat.le_of_ble_eq_true rfl, Nat.le_of_ble_eq_true rfl⟩ rfl hl.1 rfl (Nat.le_of_ble_eq_true rfl) dX0_posts_13 ⟨Nat.zero_le _, Nat.zero_le _⟩ (fun H locs V => W.eq (g2 := F0 m 16 ls [.int r4]) rfl ?_)
    refine lv_if_ne (pc := 16) (tgt := 21) hx hb dX0_posts_16 (by decide) (fun c6 => ?_) (fun c6 => ?_)
    · replace hf := if_f hf c6
      refine lv_aload_n (pc := 21) hx hb dX0_posts_21 rfl (lv_at hl 0 rfl) ?_
      replace hf := tg_s hf; obtain ⟨ht9, hf⟩ := hf
      replace hf := bs hf; obtain ⟨I7, hk_8, hf⟩ := hf
      refine x_callV0 (pc := 22) (As := []) (rest := []) X V (mX0_laysFar l D dA s0 hk_8) okX0 ht9 q1288 q1290 qs28 q119 q1291 ⟨rfl, hsX0_laysFar⟩ ⟨Nat.le_of_ble_eq_true rfl, Nat.le_of_ble_eq_true rfl⟩ rfl hl.1 rfl (Nat.le_of_ble_eq_true rfl) dX0_posts_22 ⟨Nat.zero_le _, Nat.zero_le _⟩ (fun H locs V => W.eq (g2 := F0 m 25 ls []) rfl ?_)
      refine lv_sipush (pc := 25) (v := (ii 255)) hx hb dX0_posts_25 (by decide) ?_
      refine lv_istore_n (pc := 28) (lv' := [(3, .int (ii 255)), (0, .ref x0), (1, .int x1), (2, .int x2)]) hx hb dX0_posts_28 rfl hl (by decide) rfl (fun ls hl => ?_)
      refine lv_iconst (pc := 29) (v := (ii 0)) hx hb dX0_posts_29 (by decide) ?_
      refine lv_istore (pc := 30) (lv' := [(4, .int (ii 0)), (3, .int (ii 255)), (0, .ref x0), (1, .int x1), (2, .int x2)]) hx hb dX0_posts_30 hl (by decide) rfl (fun ls hl => ?_)
      exact wX0_posts_b32 X hr nf hf V (lv_sub hl [2, 3, 4, 1, 0] rfl)
    · replace hf := if_t hf c6
      refine lv_iconst (pc := 19) (v := (-1 : Int32)) hx hb dX0_posts_19 (by decide) ?_
      cases hf
      exact x_iret (pc := 20) X V hr dX0_posts_20
theorem mX0_posts {nf : Nat} (l : Launch) (D : va_G) (dA : Nat → ClassId) (s0 : Nat) {T : xT} {N : xT} {Z : Nat} {I : xI} {L : xL} {R : xR} {x0 : Nat} {x1 : Int32} {x2 : Int32} {ro : Int32} {Io : xI} (hf : fX0_posts nf T N I R x0 x1 x2 = some (ro, Io)) : XMet l D dA s0 yX0_posts (ws_ yX0_posts cX0_posts 5 ((some .int))) (2) (48) [.ref x0, .int x1, .int x2] T N Z I L R (some (.int ro)) T N Z Io L R 0 0 :=
  x_start (own := RX0) rfl (by decide) (Nat.le_of_ble_eq_true rfl) (lv := [(0, .ref x0), (1, .int x1), (2, .int x2)]) rfl (fun p e s m below meth c ls X hr hini V hl => wX0_posts_e X hr hf V hl)
set_option maxHeartbeats 400000 in
set_option maxRecDepth 100000 in
theorem wX0_hear_e {p : Program} {l : Launch} {e : Env} {s : State} {m : MethodId} {args : Array Value} {below : List Frame} {meth : Method} {c : Code} {D : va_G} {dA : Nat → ClassId} {s0 : Nat} {T : xT} {N : xT} {Z : Nat} {I : xI} {L : xL} {R : xR} {H : Heap} {locs : List Loc} {ls : Array Slot} {x0 : Nat} {x1 : Int32} {ro : Int32} {Io : xI} (X : Cx D dA s0 p m c cX0_hear 2 s args RX0 meth) (hr : meth.sig.returnType = (some .int)) (hf : fX0_hear T N I R x0 x1 = some (ro, Io)) (V : Iv D dA s0 s T N Z I L R H locs) (hl : lv_has ls 2 [(0, .ref x0), (1, .int x1)]) : W p l e { frames := 1, cells := 0, slots := 0, locals := 22 } s m args below meth c H locs 0 0 (MQ below (xQ D dA s0 (some (.int ro)) T N Z Io L R) args s 0 0 (fun q => s0 ≤ q)) (F0 m 0 ls []) := by
  have hx := X.1.1
  have hb := X.1.2.1
  unfold fX0_hear at hf
  refine lv_iload_n (pc := 0) hx hb dX0_hear_0 rfl (lv_at hl 1 rfl) ?_
  refine lv_iconst (pc := 1) (v := (ii 0)) hx hb dX0_hear_1 (by decide) ?_
  refine lv_bipush (pc := 2) (v := (ii 19)) hx hb dX0_hear_2 (by decide) ?_
  replace hf := bs hf; obtain ⟨r1, hk_2, hf⟩ := hf
  refine x_callS0 (pc := 4) (As := [.int x1, .int (ii 0), .int (ii 19)]) (rest := []) X V (mX0_in l D dA s0 hk_2) q449 q450 q119 q451 hsX0_in ⟨Nat.le_of_ble_eq_true rfl, Nat.le_of_ble_eq_true rfl⟩ rfl hl.1 rfl (Nat.le_of_ble_eq_true rfl) dX0_hear_4 ⟨Nat.zero_le _, Nat.zero_le _⟩ (fun H locs V => W.eq (g2 := F0 m 7 ls [.int r1]) rfl ?_)
  refine lv_if_ne (pc := 7) (tgt := 16) hx hb dX0_hear_7 (by decide) (fun c3 => ?_) (fun c3 => ?_)
  · replace hf := if_f hf c3
    refine lv_aload_n (pc := 16) hx hb dX0_hear_16 rfl (lv_at hl 0 rfl) ?_
    replace hf := tg_s hf; obtain ⟨ht4, hf⟩ := hf
    replace hf := bs hf; obtain ⟨a5, ha5, hf⟩ := hf
    refine x_get (pc := 17) X V okX0 ht4 2 (by decide) q362 (v := va_rf (R x0 2)) rfl dX0_hear_17 ?_
    refine x_topr ha5 ?_
    replace hf := tg_s hf; obtain ⟨ht6, hf⟩ := hf
    refine x_getN (pc := 20) X V okX1 ht6 10 (by decide) q242 (v := .int (I a5 10)) rfl dX0_hear_20 ?_
    refine lv_bipush (pc := 23) (v := (ii 6)) hx hb dX0_hear_23 (by decide) ?_
    refine lv_icmp_ne (pc := 25) (tgt := 35) hx hb dX0_hear_25 (by decide) (fun c7 => ?_) (fun c7 => ?_)
    · replace hf := if_f hf c7
      refine lv_aload_n (pc := 35) hx hb dX0_hear_35 rfl (lv_at hl 0 rfl) ?_
      refine x_get (pc := 36) X V okX0 ht4 2 (by decide) q362 (v := va_rf (R x0 2)) rfl dX0_hear_36 ?_
      refine x_topr ha5 ?_
      replace hf := bs hf; obtain ⟨a8, ha8, hf⟩ := hf
      refine x_getN (pc := 39) X V okX1 ht6 6 (by decide) q234 (v := va_rf (R a5 6)) rfl dX0_hear_39 ?_
      refine x_topr ha8 ?_
      refine lv_aload_n (pc := 42) hx hb dX0_hear_42 rfl (lv_at hl 0 rfl) ?_
      refine x_get (pc := 43) X V okX0 ht4 2 (by decide) q362 (v := va_rf (R x0 2)) rfl dX0_hear_43 ?_
      refine x_topr ha5 ?_
      refine x_getN (pc := 46) X V okX1 ht6 10 (by decide) q242 (v := .int (I a5 10)) rfl dX0_hear_46 ?_
      refine lv_iload_n (pc := 49) hx hb dX0_hear_49 rfl (lv_at hl 1 rfl) ?_
      replace hf := rA_s hf; obtain ⟨j9, hjj9, htj9, hij9, hf⟩ := hf
      replace hf := nm_s hf; obtain ⟨I10, hI10, hf⟩ := hf
      refine x_iast (pc := 50) X V htj9 hij9 hjj9 hI10 dX0_hear_50 (fun H locs V => ?_)
      refine lv_aload_n (pc := 51) hx hb dX0_hear_51 rfl (lv_at hl 0 rfl) ?_
      refine x_get (pc := 52) X V okX0 ht4 2 (by decide) q362 (v := va_rf (R x0 2)) rfl dX0_hear_52 ?_
      refine x_topr ha5 ?_
      refine lv_dup (pc := 55) hx hb dX0_hear_55 rfl ?_
      refine x_getN (pc := 56) X V okX1 ht6 10 (by decide) q242 (v := .int (I10 a5 10)) rfl dX0_hear_56 ?_
      refine lv_iconst (pc := 59) (v := (ii 1)) hx hb dX0_hear_59 (by decide) ?_
      refine lv_iadd (pc := 60) hx hb dX0_hear_60 ?_
      replace hf := nm_s hf; obtain ⟨I11, hI11, hf⟩ := hf
      refine x_putNi (pc := 61) X V okX1 (by decide) ht6 10 (by decide) q242 rfl hI11 (fun _ _ _ => rfl) rfl rfl dX0_hear_61 (fun H locs V => ?_)
      refine lv_aload_n (pc := 64) hx hb dX0_hear_64 rfl (lv_at hl 0 rfl) ?_
      refine lv_aload_n (pc := 65) hx hb dX0_hear_65 rfl (lv_at hl 0 rfl) ?_
      refine x_get (pc := 66) X V okX0 ht4 2 (by decide) q362 (v := va_rf (R x0 2)) rfl dX0_hear_66 ?_
      refine x_topr ha5 ?_
      refine x_getN (pc := 69) X V okX1 ht6 10 (by decide) q242 (v := .int (I11 a5 10)) rfl dX0_hear_69 ?_
      replace hf := b2s hf; obtain ⟨r12, I13, hk_14, hf⟩ := hf
      refine x_callV0 (pc := 72) (As := [.int (I11 a5 10)]) (rest := []) X V (mX0_done l D dA s0 hk_14) okX0 ht4 q542 q544 qs3 q119 q545 ⟨rfl, hsX0_done⟩ ⟨Nat.le_of_ble_eq_true rfl, Nat.le_of_ble_eq_true rfl⟩ rfl hl.1 rfl (Nat.le_of_ble_eq_true rfl) dX0_hear_72 ⟨Nat.zero_le _, Nat.zero_le _⟩ (fun H locs V => W.eq (g2 := F0 m 75 ls [.int r12]) rfl ?_)
      cases hf
      exact x_iret (pc := 75) X V hr dX0_hear_75
    · replace hf := if_t hf c7
      refine lv_aload_n (pc := 28) hx hb dX0_hear_28 rfl (lv_at hl 0 rfl) ?_
      refine lv_bipush (pc := 29) (v := (-5 : Int32)) hx hb dX0_hear_29 (by decide) ?_
      replace hf := b2s hf; obtain ⟨r15, I16, hk_17, hf⟩ := hf
      refine x_callV0 (pc := 31) (As := [.int (-5 : Int32)]) (rest := []) X V (mX0_refuse l D dA s0 hk_17) okX0 ht4 q452 q454 qs1 q119 q455 ⟨rfl, hsX0_refuse⟩ ⟨Nat.le_of_ble_eq_true rfl, Nat.le_of_ble_eq_true rfl⟩ rfl hl.1 rfl (Nat.le_of_ble_eq_true rfl) dX0_hear_31 ⟨Nat.zero_le _, Nat.zero_le _⟩ (fun H locs V => W.eq (g2 := F0 m 34 ls [.int r15]) rfl ?_)
      cases hf
      exact x_iret (pc := 34) X V hr dX0_hear_34
  · replace hf := if_t hf c3
    refine lv_aload_n (pc := 10) hx hb dX0_hear_10 rfl (lv_at hl 0 rfl) ?_
    refine lv_iconst (pc := 11) (v := (-1 : Int32)) hx hb dX0_hear_11 (by decide) ?_
    replace hf := tg_s hf; obtain ⟨ht21, hf⟩ := hf
    replace hf := b2s hf; obtain ⟨r18, I19, hk_20, hf⟩ := hf
    refine x_callV0 (pc := 12) (As := [.int (-1 : Int32)]) (rest := []) X V (mX0_refuse l D dA s0 hk_20) okX0 ht21 q452 q454 qs1 q119 q455 ⟨rfl, hsX0_refuse⟩ ⟨Nat.le_of_ble_eq_true rfl, Nat.le_of_ble_eq_true rfl⟩ rfl hl.1 rfl (Nat.le_of_ble_eq_true rfl) dX0_hear_12 ⟨Nat.zero_le _, Nat.zero_le _⟩ (fun H locs V => W.eq (g2 := F0 m 15 ls [.int r18]) rfl ?_)
    cases hf
    exact x_iret (pc := 15) X V hr dX0_hear_15
theorem mX0_hear (l : Launch) (D : va_G) (dA : Nat → ClassId) (s0 : Nat) {T : xT} {N : xT} {Z : Nat} {I : xI} {L : xL} {R : xR} {x0 : Nat} {x1 : Int32} {ro : Int32} {Io : xI} (hf : fX0_hear T N I R x0 x1 = some (ro, Io)) : XMet l D dA s0 yX0_hear (ws_ yX0_hear cX0_hear 2 ((some .int))) (1) (22) [.ref x0, .int x1] T N Z I L R (some (.int ro)) T N Z Io L R 0 0 :=
  x_start (own := RX0) rfl (by decide) (Nat.le_of_ble_eq_true rfl) (lv := [(0, .ref x0), (1, .int x1)]) rfl (fun p e s m below meth c ls X hr hini V hl => wX0_hear_e X hr hf V hl)
set_option maxHeartbeats 400000 in
set_option maxRecDepth 100000 in
theorem wX0_forget_e {p : Program} {l : Launch} {e : Env} {s : State} {m : MethodId} {args : Array Value} {below : List Frame} {meth : Method} {c : Code} {D : va_G} {dA : Nat → ClassId} {s0 : Nat} {T : xT} {N : xT} {Z : Nat} {I : xI} {L : xL} {R : xR} {H : Heap} {locs : List Loc} {ls : Array Slot} {x0 : Nat} {ro : Int32} {Io : xI} (X : Cx D dA s0 p m c cX0_forget 2 s args RX0 meth) (hr : meth.sig.returnType = (some .int)) (hf : fX0_forget T I R x0 = some (ro, Io)) (V : Iv D dA s0 s T N Z I L R H locs) (hl : lv_has ls 2 [(0, .ref x0)]) : W p l e { frames := 0, cells := 0, slots := 0, locals := 0 } s m args below meth c H locs 0 0 (MQ below (xQ D dA s0 (some (.int ro)) T N Z Io L R) args s 0 0 (fun q => s0 ≤ q)) (F0 m 0 ls []) := by
  have hx := X.1.1
  have hb := X.1.2.1
  unfold fX0_forget at hf
  refine lv_aload_n (pc := 0) hx hb dX0_forget_0 rfl (lv_at hl 0 rfl) ?_
  replace hf := tg_s hf; obtain ⟨ht1, hf⟩ := hf
  replace hf := bs hf; obtain ⟨a2, ha2, hf⟩ := hf
  refine x_get (pc := 1) X V okX0 ht1 2 (by decide) q362 (v := va_rf (R x0 2)) rfl dX0_forget_1 ?_
  refine x_topr ha2 ?_
  replace hf := tg_s hf; obtain ⟨ht3, hf⟩ := hf
  refine x_getN (pc := 4) X V okX1 ht3 10 (by decide) q242 (v := .int (I a2 10)) rfl dX0_forget_4 ?_
  replace hf := nm_s hf; obtain ⟨u4, hu4, hf⟩ := hf
  refine x_topi hu4 ?_
  refine lv_istore_n (pc := 7) (lv' := [(1, .int u4), (0, .ref x0)]) hx hb dX0_forget_7 rfl hl (by decide) rfl (fun ls hl => ?_)
  refine lv_aload_n (pc := 8) hx hb dX0_forget_8 rfl (lv_at hl 1 rfl) ?_
  refine x_get (pc := 9) X V okX0 ht1 2 (by decide) q362 (v := va_rf (R x0 2)) rfl dX0_forget_9 ?_
  refine x_topr ha2 ?_
  refine lv_iconst (pc := 12) (v := (ii 0)) hx hb dX0_forget_12 (by decide) ?_
  replace hf := nm_s hf; obtain ⟨I5, hI5, hf⟩ := hf
  refine x_putNi (pc := 13) X V okX1 (by decide) ht3 10 (by decide) q242 rfl hI5 (fun _ _ _ => rfl) rfl rfl dX0_forget_13 (fun H locs V => ?_)
  refine lv_iload_n (pc := 16) hx hb dX0_forget_16 rfl (lv_at hl 0 rfl) ?_
  cases hf
  exact x_iret (pc := 17) X V hr dX0_forget_17
theorem mX0_forget (l : Launch) (D : va_G) (dA : Nat → ClassId) (s0 : Nat) {T : xT} {N : xT} {Z : Nat} {I : xI} {L : xL} {R : xR} {x0 : Nat} {ro : Int32} {Io : xI} (hf : fX0_forget T I R x0 = some (ro, Io)) : XMet l D dA s0 yX0_forget (ws_ yX0_forget cX0_forget 2 ((some .int))) (0) (0) [.ref x0] T N Z I L R (some (.int ro)) T N Z Io L R 0 0 :=
  x_start (own := RX0) rfl (by decide) (Nat.le_of_ble_eq_true rfl) (lv := [(0, .ref x0)]) rfl (fun p e s m below meth c ls X hr hini V hl => wX0_forget_e X hr hf V hl)
set_option maxHeartbeats 400000 in
set_option maxRecDepth 100000 in
theorem wX0_laysWays_b89 {nf : Nat} {p : Program} {l : Launch} {e : Env} {s : State} {m : MethodId} {args : Array Value} {below : List Frame} {meth : Method} {c : Code} {D : va_G} {dA : Nat → ClassId} {s0 : Nat} {T : xT} {N : xT} {Z : Nat} {L : xL} {R : xR} {kk23 : xI → Nat → Int32 → Int32 → Option (xI)} {Io : xI} (X : Cx D dA s0 p m c cX0_laysWays 5 s args RX0 meth) (hr : meth.sig.returnType = none) (hk23 : ∀ {I : xI} {x0 : Nat} {x1 : Int32} {x2 : Int32} {H : Heap} {locs : List Loc} {ls : Array Slot} , kk23 I x0 x1 x2 = some Io → Iv D dA s0 s T N Z I L R H locs → lv_has ls 5 [(0, .ref x0), (1, .int x1), (2, .int x2)] → W p l e { frames := 1, cells := 0, slots := 0, locals := 60 } s m args below meth c H locs 0 0 (MQ below (xQ D dA s0 none T N Z Io L R) args s 0 0 (fun q => s0 ≤ q)) (F0 m 23 ls []))  (k : Nat) : ∀ {I : xI} {x0 : Nat} {x1 : Int32} {x2 : Int32} {x3 : Int32} {x4 : Int32} {H : Heap} {locs : List Loc} {ls : Array Slot} , fX0_laysWays_b89 nf kk23 T N R k I x0 x1 x2 x3 x4 = some Io → Iv D dA s0 s T N Z I L R H locs → lv_has ls 5 [(0, .ref x0), (1, .int x1), (2, .int x2), (3, .int x3), (4, .int x4)] → W p l e { frames := 1, cells := 0, slots := 0, locals := 60 } s m args below meth c H locs 0 0 (MQ below (xQ D dA s0 none T N Z Io L R) args s 0 0 (fun q => s0 ≤ q)) (F0 m 89 ls []) := by
  have hx := X.1.1
  have hb := X.1.2.1
  induction k with
  | zero =>
    intro I x0 x1 x2 x3 x4 H locs ls hf V hl
    exact absurd (show none = some _ from hf) (fun q => nomatch q)
  | succ k ih =>
    intro I x0 x1 x2 x3 x4 H locs ls hf V hl
    rw [fX0_laysWays_b89] at hf
    refine lv_iload (pc := 89) hx hb dX0_laysWays_89 (lv_at hl 4 rfl) ?_
    refine lv_aload_n (pc := 91) hx hb dX0_laysWays_91 rfl (lv_at hl 0 rfl) ?_
    replace hf := tg_s hf; obtain ⟨ht1, hf⟩ := hf
    replace hf := bs hf; obtain ⟨a2, ha2, hf⟩ := hf
    refine x_get (pc := 92) X V okX0 ht1 2 (by decide) q362 (v := va_rf (R x0 2)) rfl dX0_laysWays_92 ?_
    refine x_topr ha2 ?_
    replace hf := tg_s hf; obtain ⟨ht3, hf⟩ := hf
    refine x_getN (pc := 95) X V okX1 ht3 8 (by decide) q238 (v := .int (I a2 8)) rfl dX0_laysWays_95 ?_
    refine lv_icmp_ge (pc := 98) (tgt := 190) hx hb dX0_laysWays_98 (by decide) (fun c4 => ?_) (fun c4 => ?_)
    · replace hf := if_t hf c4
      refine lv_aload_n (pc := 190) hx hb dX0_laysWays_190 rfl (lv_at hl 0 rfl) ?_
      replace hf := bs hf; obtain ⟨a5, ha5, hf⟩ := hf
      refine x_get (pc := 191) X V okX0 ht1 21 (by decide) q381 (v := va_rf (R x0 21)) rfl dX0_laysWays_191 ?_
      refine x_topr ha5 ?_
      refine lv_iconst (pc := 194) (v := (ii 0)) hx hb dX0_laysWays_194 (by decide) ?_
      refine lv_aload_n (pc := 195) hx hb dX0_laysWays_195 rfl (lv_at hl 0 rfl) ?_
      replace hf := bs hf; obtain ⟨a6, ha6, hf⟩ := hf
      refine x_get (pc := 196) X V okX0 ht1 20 (by decide) q380 (v := va_rf (R x0 20)) rfl dX0_laysWays_196 ?_
      refine x_topr ha6 ?_
      refine lv_iconst (pc := 199) (v := (ii 0)) hx hb dX0_laysWays_199 (by decide) ?_
      refine lv_bipush (pc := 200) (v := (ii 8)) hx hb dX0_laysWays_200 (by decide) ?_
      replace hf := tg_s hf; obtain ⟨ht7, hf⟩ := hf
      replace hf := tg_s hf; obtain ⟨ht8, hf⟩ := hf
      replace hf := chk_s hf; obtain ⟨hq9, hf⟩ := hf
      replace hf := nm_s hf; obtain ⟨I10, hI10, hf⟩ := hf
      refine x_copyi (pc := 202) X V q1351 q469 q468 q150 ht7 ht8 hq9 hI10 hl.1 (Nat.le_of_ble_eq_true rfl) (Nat.le_of_ble_eq_true rfl) dX0_laysWays_202 (fun H locs V => ?_)
      replace hf := nm_s hf; obtain ⟨u11, hu11, hf⟩ := hf
      refine lv_iinc (pc := 205) (v := u11) (lv' := [(2, .int u11), (0, .ref x0), (1, .int x1), (3, .int x3), (4, .int x4)]) hx hb dX0_laysWays_205 hl (k := 2) rfl (by rw [hu11]; rfl) (by decide) rfl (fun ls hl => ?_)
      refine lv_goto (pc := 208) (tgt := 23) hx hb dX0_laysWays_208 (by decide) ?_
      exact hk23 hf V (lv_sub hl [1, 2, 0] rfl)
    · replace hf := if_f hf c4
      refine lv_aload_n (pc := 101) hx hb dX0_laysWays_101 rfl (lv_at hl 0 rfl) ?_
      replace hf := bs hf; obtain ⟨r12, hk_13, hf⟩ := hf
      refine x_callV0 (pc := 102) (As := []) (rest := []) X V (mX0_table l D dA s0 hk_13) okX0 ht1 q568 q570 qs6 q119 q571 ⟨rfl, hsX0_table⟩ ⟨Nat.le_of_ble_eq_true rfl, Nat.le_of_ble_eq_true rfl⟩ rfl hl.1 rfl (Nat.le_of_ble_eq_true rfl) dX0_laysWays_102 ⟨Nat.zero_le _, Nat.zero_le _⟩ (fun H locs V => W.eq (g2 := F0 m 105 ls [.ref r12]) rfl ?_)
      replace hf := tg_s hf; obtain ⟨ht14, hf⟩ := hf
      replace hf := bs hf; obtain ⟨a15, ha15, hf⟩ := hf
      refine x_getN (pc := 105) X V okX2 ht14 2 (by decide) q180 (v := va_rf (R r12 2)) rfl dX0_laysWays_105 ?_
      refine x_topr ha15 ?_
      refine lv_iload (pc := 108) hx hb dX0_laysWays_108 (lv_at hl 4 rfl) ?_
      replace hf := rA_s hf; obtain ⟨j16, hjj16, htj16, hij16, hf⟩ := hf
      refine x_iald (pc := 110) X V htj16 hij16 hjj16 dX0_laysWays_110 ?_
      refine lv_iload_n (pc := 111) hx hb dX0_laysWays_111 rfl (lv_at hl 3 rfl) ?_
      refine lv_icmp_eq (pc := 112) (tgt := 118) hx hb dX0_laysWays_112 (by decide) (fun c17 => ?_) (fun c17 => ?_)
      · replace hf := if_t hf c17
        refine lv_aload_n (pc := 118) hx hb dX0_laysWays_118 rfl (lv_at hl 0 rfl) ?_
        replace hf := bs hf; obtain ⟨a18, ha18, hf⟩ := hf
        refine x_get (pc := 119) X V okX0 ht1 21 (by decide) q381 (v := va_rf (R x0 21)) rfl dX0_laysWays_119 ?_
        refine x_topr ha18 ?_
        refine lv_aload_n (pc := 122) hx hb dX0_laysWays_122 rfl (lv_at hl 0 rfl) ?_
        refine x_get (pc := 123) X V okX0 ht1 2 (by decide) q362 (v := va_rf (R x0 2)) rfl dX0_laysWays_123 ?_
        refine x_topr ha2 ?_
        replace hf := bs hf; obtain ⟨a19, ha19, hf⟩ := hf
        refine x_getN (pc := 126) X V okX1 ht3 2 (by decide) q226 (v := va_rf (R a2 2)) rfl dX0_laysWays_126 ?_
        refine x_topr ha19 ?_
        refine lv_iload (pc := 129) hx hb dX0_laysWays_129 (lv_at hl 4 rfl) ?_
        replace hf := rA_s hf; obtain ⟨j20, hjj20, htj20, hij20, hf⟩ := hf
        refine x_iald (pc := 131) X V htj20 hij20 hjj20 dX0_laysWays_131 ?_
        refine lv_dup2_11 (pc := 132) hx hb dX0_laysWays_132 rfl rfl ?_
        replace hf := rA_s hf; obtain ⟨j21, hjj21, htj21, hij21, hf⟩ := hf
        refine x_iald (pc := 133) X V htj21 hij21 hjj21 dX0_laysWays_133 ?_
        refine lv_aload_n (pc := 134) hx hb dX0_laysWays_134 rfl (lv_at hl 0 rfl) ?_
        replace hf := bs hf; obtain ⟨a22, ha22, hf⟩ := hf
        refine x_get (pc := 135) X V okX0 ht1 20 (by decide) q380 (v := va_rf (R x0 20)) rfl dX0_laysWays_135 ?_
        refine x_topr ha22 ?_
        refine lv_aload_n (pc := 138) hx hb dX0_laysWays_138 rfl (lv_at hl 0 rfl) ?_
        refine x_get (pc := 139) X V okX0 ht1 2 (by decide) q362 (v := va_rf (R x0 2)) rfl dX0_laysWays_139 ?_
        refine x_topr ha2 ?_
        replace hf := bs hf; obtain ⟨a23, ha23, hf⟩ := hf
        refine x_getN (pc := 142) X V okX1 ht3 1 (by decide) q224 (v := va_rf (R a2 1)) rfl dX0_laysWays_142 ?_
        refine x_topr ha23 ?_
        refine lv_iload (pc := 145) hx hb dX0_laysWays_145 (lv_at hl 4 rfl) ?_
        replace hf := rA_s hf; obtain ⟨j24, hjj24, htj24, hij24, hf⟩ := hf
        refine x_iald (pc := 147) X V htj24 hij24 hjj24 dX0_laysWays_147 ?_
        replace hf := rA_s hf; obtain ⟨j25, hjj25, htj25, hij25, hf⟩ := hf
        refine x_iald (pc := 148) X V htj25 hij25 hjj25 dX0_laysWays_148 ?_
        refine lv_iadd (pc := 149) hx hb dX0_laysWays_149 ?_
        replace hf := nm_s hf; obtain ⟨I26, hI26, hf⟩ := hf
        refine x_iast (pc := 150) X V htj21 hij21 hjj21 hI26 dX0_laysWays_150 (fun H locs V => ?_)
        refine lv_aload_n (pc := 151) hx hb dX0_laysWays_151 rfl (lv_at hl 0 rfl) ?_
        refine x_get (pc := 152) X V okX0 ht1 21 (by decide) q381 (v := va_rf (R x0 21)) rfl dX0_laysWays_152 ?_
        refine x_topr ha18 ?_
        refine lv_aload_n (pc := 155) hx hb dX0_laysWays_155 rfl (lv_at hl 0 rfl) ?_
        refine x_get (pc := 156) X V okX0 ht1 2 (by decide) q362 (v := va_rf (R x0 2)) rfl dX0_laysWays_156 ?_
        refine x_topr ha2 ?_
        refine x_getN (pc := 159) X V okX1 ht3 1 (by decide) q224 (v := va_rf (R a2 1)) rfl dX0_laysWays_159 ?_
        refine x_topr ha23 ?_
        refine lv_iload (pc := 162) hx hb dX0_laysWays_162 (lv_at hl 4 rfl) ?_
        refine x_iald (pc := 164) X V htj24 hij24 hjj24 dX0_laysWays_164 ?_
        refine lv_dup2_11 (pc := 165) hx hb dX0_laysWays_165 rfl rfl ?_
        replace hf := rA_s hf; obtain ⟨j27, hjj27, htj27, hij27, hf⟩ := hf
        refine x_iald (pc := 166) X V htj27 hij27 hjj27 dX0_laysWays_166 ?_
        refine lv_aload_n (pc := 167) hx hb dX0_laysWays_167 rfl (lv_at hl 0 rfl) ?_
        refine x_get (pc := 168) X V okX0 ht1 20 (by decide) q380 (v := va_rf (R x0 20)) rfl dX0_laysWays_168 ?_
        refine x_topr ha22 ?_
        refine lv_aload_n (pc := 171) hx hb dX0_laysWays_171 rfl (lv_at hl 0 rfl) ?_
        refine x_get (pc := 172) X V okX0 ht1 2 (by decide) q362 (v := va_rf (R x0 2)) rfl dX0_laysWays_172 ?_
        refine x_topr ha2 ?_
        refine x_getN (pc := 175) X V okX1 ht3 2 (by decide) q226 (v := va_rf (R a2 2)) rfl dX0_laysWays_175 ?_
        refine x_topr ha19 ?_
        refine lv_iload (pc := 178) hx hb dX0_laysWays_178 (lv_at hl 4 rfl) ?_
        refine x_iald (pc := 180) X V htj20 hij20 hjj20 dX0_laysWays_180 ?_
        replace hf := rA_s hf; obtain ⟨j28, hjj28, htj28, hij28, hf⟩ := hf
        refine x_iald (pc := 181) X V htj28 hij28 hjj28 dX0_laysWays_181 ?_
        refine lv_iadd (pc := 182) hx hb dX0_laysWays_182 ?_
        replace hf := nm_s hf; obtain ⟨I29, hI29, hf⟩ := hf
        refine x_iast (pc := 183) X V htj27 hij27 hjj27 hI29 dX0_laysWays_183 (fun H locs V => ?_)
        replace hf := nm_s hf; obtain ⟨u30, hu30, hf⟩ := hf
        refine lv_iinc (pc := 184) (v := u30) (lv' := [(4, .int u30), (0, .ref x0), (1, .int x1), (2, .int x2), (3, .int x3)]) hx hb dX0_laysWays_184 hl (k := 4) rfl (by rw [hu30]; rfl) (by decide) rfl (fun ls hl => ?_)
        refine lv_goto (pc := 187) (tgt := 89) hx hb dX0_laysWays_187 (by decide) ?_
        exact ih hf V (lv_sub hl [1, 2, 3, 4, 0] rfl)
      · replace hf := if_f hf c17
        refine lv_goto (pc := 115) (tgt := 184) hx hb dX0_laysWays_115 (by decide) ?_
        replace hf := nm_s hf; obtain ⟨u31, hu31, hf⟩ := hf
        refine lv_iinc (pc := 184) (v := u31) (lv' := [(4, .int u31), (0, .ref x0), (1, .int x1), (2, .int x2), (3, .int x3)]) hx hb dX0_laysWays_184 hl (k := 4) rfl (by rw [hu31]; rfl) (by decide) rfl (fun ls hl => ?_)
        refine lv_goto (pc := 187) (tgt := 89) hx hb dX0_laysWays_187 (by decide) ?_
        exact ih hf V (lv_sub hl [1, 2, 3, 4, 0] rfl)
set_option maxHeartbeats 400000 in
set_option maxRecDepth 100000 in
theorem wX0_laysWays_b65 {nf : Nat} {p : Program} {l : Launch} {e : Env} {s : State} {m : MethodId} {args : Array Value} {below : List Frame} {meth : Method} {c : Code} {D : va_G} {dA : Nat → ClassId} {s0 : Nat} {T : xT} {N : xT} {Z : Nat} {L : xL} {R : xR} {kk23 : xI → Nat → Int32 → Int32 → Option (xI)} {Io : xI} (X : Cx D dA s0 p m c cX0_laysWays 5 s args RX0 meth) (hr : meth.sig.returnType = none) (hk23 : ∀ {I : xI} {x0 : Nat} {x1 : Int32} {x2 : Int32} {H : Heap} {locs : List Loc} {ls : Array Slot} , kk23 I x0 x1 x2 = some Io → Iv D dA s0 s T N Z I L R H locs → lv_has ls 5 [(0, .ref x0), (1, .int x1), (2, .int x2)] → W p l e { frames := 1, cells := 0, slots := 0, locals := 60 } s m args below meth c H locs 0 0 (MQ below (xQ D dA s0 none T N Z Io L R) args s 0 0 (fun q => s0 ≤ q)) (F0 m 23 ls []))  (k : Nat) : ∀ {I : xI} {x0 : Nat} {x1 : Int32} {x2 : Int32} {x3 : Int32} {x4 : Int32} {H : Heap} {locs : List Loc} {ls : Array Slot} , fX0_laysWays_b65 nf kk23 T N R k I x0 x1 x2 x3 x4 = some Io → Iv D dA s0 s T N Z I L R H locs → lv_has ls 5 [(0, .ref x0), (1, .int x1), (2, .int x2), (3, .int x3), (4, .int x4)] → W p l e { frames := 1, cells := 0, slots := 0, locals := 60 } s m args below meth c H locs 0 0 (MQ below (xQ D dA s0 none T N Z Io L R) args s 0 0 (fun q => s0 ≤ q)) (F0 m 65 ls []) := by
  have hx := X.1.1
  have hb := X.1.2.1
  induction k with
  | zero =>
    intro I x0 x1 x2 x3 x4 H locs ls hf V hl
    exact absurd (show none = some _ from hf) (fun q => nomatch q)
  | succ k ih =>
    intro I x0 x1 x2 x3 x4 H locs ls hf V hl
    rw [fX0_laysWays_b65] at hf
    refine lv_iload (pc := 65) hx hb dX0_laysWays_65 (lv_at hl 4 rfl) ?_
    refine lv_bipush (pc := 67) (v := (ii 8)) hx hb dX0_laysWays_67 (by decide) ?_
    refine lv_icmp_ge (pc := 69) (tgt := 86) hx hb dX0_laysWays_69 (by decide) (fun c1 => ?_) (fun c1 => ?_)
    · replace hf := if_t hf c1
      refine lv_iconst (pc := 86) (v := (ii 0)) hx hb dX0_laysWays_86 (by decide) ?_
      refine lv_istore (pc := 87) (lv' := [(4, .int (ii 0)), (0, .ref x0), (1, .int x1), (2, .int x2), (3, .int x3)]) hx hb dX0_laysWays_87 hl (by decide) rfl (fun ls hl => ?_)
      exact wX0_laysWays_b89 X hr hk23 nf hf V (lv_sub hl [1, 2, 3, 4, 0] rfl)
    · replace hf := if_f hf c1
      refine lv_aload_n (pc := 72) hx hb dX0_laysWays_72 rfl (lv_at hl 0 rfl) ?_
      replace hf := tg_s hf; obtain ⟨ht2, hf⟩ := hf
      replace hf := bs hf; obtain ⟨a3, ha3, hf⟩ := hf
      refine x_get (pc := 73) X V okX0 ht2 21 (by decide) q381 (v := va_rf (R x0 21)) rfl dX0_laysWays_73 ?_
      refine x_topr ha3 ?_
      refine lv_iload (pc := 76) hx hb dX0_laysWays_76 (lv_at hl 4 rfl) ?_
      refine lv_iconst (pc := 78) (v := (ii 0)) hx hb dX0_laysWays_78 (by decide) ?_
      replace hf := rA_s hf; obtain ⟨j4, hjj4, htj4, hij4, hf⟩ := hf
      replace hf := nm_s hf; obtain ⟨I5, hI5, hf⟩ := hf
      refine x_iast (pc := 79) X V htj4 hij4 hjj4 hI5 dX0_laysWays_79 (fun H locs V => ?_)
      replace hf := nm_s hf; obtain ⟨u6, hu6, hf⟩ := hf
      refine lv_iinc (pc := 80) (v := u6) (lv' := [(4, .int u6), (0, .ref x0), (1, .int x1), (2, .int x2), (3, .int x3)]) hx hb dX0_laysWays_80 hl (k := 4) rfl (by rw [hu6]; rfl) (by decide) rfl (fun ls hl => ?_)
      refine lv_goto (pc := 83) (tgt := 65) hx hb dX0_laysWays_83 (by decide) ?_
      exact ih hf V (lv_sub hl [1, 2, 3, 4, 0] rfl)
set_option maxHeartbeats 400000 in
set_option maxRecDepth 100000 in
theorem wX0_laysWays_b23 {nf : Nat} {p : Program} {l : Launch} {e : Env} {s : State} {m : MethodId} {args : Array Value} {below : List Frame} {meth : Method} {c : Code} {D : va_G} {dA : Nat → ClassId} {s0 : Nat} {T : xT} {N : xT} {Z : Nat} {L : xL} {R : xR}  {Io : xI} (X : Cx D dA s0 p m c cX0_laysWays 5 s args RX0 meth) (hr : meth.sig.returnType = none)   (k : Nat) : ∀ {I : xI} {x0 : Nat} {x1 : Int32} {x2 : Int32} {H : Heap} {locs : List Loc} {ls : Array Slot} , fX0_laysWays_b23 nf T N R k I x0 x1 x2 = some Io → Iv D dA s0 s T N Z I L R H locs → lv_has ls 5 [(0, .ref x0), (1, .int x1), (2, .int x2)] → W p l e { frames := 1, cells := 0, slots := 0, locals := 60 } s m args below meth c H locs 0 0 (MQ below (xQ D dA s0 none T N Z Io L R) args s 0 0 (fun q => s0 ≤ q)) (F0 m 23 ls []) := by
  have hx := X.1.1
  have hb := X.1.2.1
  induction k with
  | zero =>
    intro I x0 x1 x2 H locs ls hf V hl
    exact absurd (show none = some _ from hf) (fun q => nomatch q)
  | succ k ih =>
    intro I x0 x1 x2 H locs ls hf V hl
    rw [fX0_laysWays_b23] at hf
    refine lv_iload_n (pc := 23) hx hb dX0_laysWays_23 rfl (lv_at hl 2 rfl) ?_
    refine lv_aload_n (pc := 24) hx hb dX0_laysWays_24 rfl (lv_at hl 0 rfl) ?_
    replace hf := tg_s hf; obtain ⟨ht1, hf⟩ := hf
    replace hf := bs hf; obtain ⟨a2, ha2, hf⟩ := hf
    refine x_get (pc := 25) X V okX0 ht1 2 (by decide) q362 (v := va_rf (R x0 2)) rfl dX0_laysWays_25 ?_
    refine x_topr ha2 ?_
    replace hf := tg_s hf; obtain ⟨ht3, hf⟩ := hf
    refine x_getN (pc := 28) X V okX1 ht3 10 (by decide) q242 (v := .int (I a2 10)) rfl dX0_laysWays_28 ?_
    refine lv_icmp_ge (pc := 31) (tgt := 211) hx hb dX0_laysWays_31 (by decide) (fun c4 => ?_) (fun c4 => ?_)
    · replace hf := if_t hf c4
      cases hf
      exact x_vret (pc := 211) X V hr dX0_laysWays_211
    · replace hf := if_f hf c4
      refine lv_aload_n (pc := 34) hx hb dX0_laysWays_34 rfl (lv_at hl 0 rfl) ?_
      refine x_get (pc := 35) X V okX0 ht1 2 (by decide) q362 (v := va_rf (R x0 2)) rfl dX0_laysWays_35 ?_
      refine x_topr ha2 ?_
      replace hf := bs hf; obtain ⟨a5, ha5, hf⟩ := hf
      refine x_getN (pc := 38) X V okX1 ht3 6 (by decide) q234 (v := va_rf (R a2 6)) rfl dX0_laysWays_38 ?_
      refine x_topr ha5 ?_
      refine lv_iload_n (pc := 41) hx hb dX0_laysWays_41 rfl (lv_at hl 1 rfl) ?_
      refine lv_if_eq (pc := 42) (tgt := 49) hx hb dX0_laysWays_42 (by decide) (fun c6 => ?_) (fun c6 => ?_)
      · replace hf := if_t hf c6
        refine lv_aload_n (pc := 49) hx hb dX0_laysWays_49 rfl (lv_at hl 0 rfl) ?_
        refine x_get (pc := 50) X V okX0 ht1 2 (by decide) q362 (v := va_rf (R x0 2)) rfl dX0_laysWays_50 ?_
        refine x_topr ha2 ?_
        refine x_getN (pc := 53) X V okX1 ht3 10 (by decide) q242 (v := .int (I a2 10)) rfl dX0_laysWays_53 ?_
        refine lv_iconst (pc := 56) (v := (ii 1)) hx hb dX0_laysWays_56 (by decide) ?_
        refine lv_isub (pc := 57) hx hb dX0_laysWays_57 ?_
        refine lv_iload_n (pc := 58) hx hb dX0_laysWays_58 rfl (lv_at hl 2 rfl) ?_
        refine lv_isub (pc := 59) hx hb dX0_laysWays_59 ?_
        replace hf := rA_s hf; obtain ⟨j7, hjj7, htj7, hij7, hf⟩ := hf
        refine x_iald (pc := 60) X V htj7 hij7 hjj7 dX0_laysWays_60 ?_
        replace hf := nm_s hf; obtain ⟨u8, hu8, hf⟩ := hf
        refine x_topi hu8 ?_
        refine lv_istore_n (pc := 61) (lv' := [(3, .int u8), (0, .ref x0), (1, .int x1), (2, .int x2)]) hx hb dX0_laysWays_61 rfl hl (by decide) rfl (fun ls hl => ?_)
        refine lv_iconst (pc := 62) (v := (ii 0)) hx hb dX0_laysWays_62 (by decide) ?_
        refine lv_istore (pc := 63) (lv' := [(4, .int (ii 0)), (3, .int u8), (0, .ref x0), (1, .int x1), (2, .int x2)]) hx hb dX0_laysWays_63 hl (by decide) rfl (fun ls hl => ?_)
        exact wX0_laysWays_b65 X hr ih nf hf V (lv_sub hl [2, 3, 4, 1, 0] rfl)
      · replace hf := if_f hf c6
        refine lv_iload_n (pc := 45) hx hb dX0_laysWays_45 rfl (lv_at hl 2 rfl) ?_
        refine lv_goto (pc := 46) (tgt := 60) hx hb dX0_laysWays_46 (by decide) ?_
        replace hf := rA_s hf; obtain ⟨j9, hjj9, htj9, hij9, hf⟩ := hf
        refine x_iald (pc := 60) X V htj9 hij9 hjj9 dX0_laysWays_60 ?_
        replace hf := nm_s hf; obtain ⟨u10, hu10, hf⟩ := hf
        refine x_topi hu10 ?_
        refine lv_istore_n (pc := 61) (lv' := [(3, .int u10), (0, .ref x0), (1, .int x1), (2, .int x2)]) hx hb dX0_laysWays_61 rfl hl (by decide) rfl (fun ls hl => ?_)
        refine lv_iconst (pc := 62) (v := (ii 0)) hx hb dX0_laysWays_62 (by decide) ?_
        refine lv_istore (pc := 63) (lv' := [(4, .int (ii 0)), (3, .int u10), (0, .ref x0), (1, .int x1), (2, .int x2)]) hx hb dX0_laysWays_63 hl (by decide) rfl (fun ls hl => ?_)
        exact wX0_laysWays_b65 X hr ih nf hf V (lv_sub hl [2, 3, 4, 1, 0] rfl)
set_option maxHeartbeats 400000 in
set_option maxRecDepth 100000 in
theorem wX0_laysWays_b2 {nf : Nat} {p : Program} {l : Launch} {e : Env} {s : State} {m : MethodId} {args : Array Value} {below : List Frame} {meth : Method} {c : Code} {D : va_G} {dA : Nat → ClassId} {s0 : Nat} {T : xT} {N : xT} {Z : Nat} {L : xL} {R : xR}  {Io : xI} (X : Cx D dA s0 p m c cX0_laysWays 5 s args RX0 meth) (hr : meth.sig.returnType = none)   (k : Nat) : ∀ {I : xI} {x0 : Nat} {x1 : Int32} {x2 : Int32} {H : Heap} {locs : List Loc} {ls : Array Slot} , fX0_laysWays_b2 nf T N R k I x0 x1 x2 = some Io → Iv D dA s0 s T N Z I L R H locs → lv_has ls 5 [(0, .ref x0), (1, .int x1), (2, .int x2)] → W p l e { frames := 1, cells := 0, slots := 0, locals := 60 } s m args below meth c H locs 0 0 (MQ below (xQ D dA s0 none T N Z Io L R) args s 0 0 (fun q => s0 ≤ q)) (F0 m 2 ls []) := by
  have hx := X.1.1
  have hb := X.1.2.1
  induction k with
  | zero =>
    intro I x0 x1 x2 H locs ls hf V hl
    exact absurd (show none = some _ from hf) (fun q => nomatch q)
  | succ k ih =>
    intro I x0 x1 x2 H locs ls hf V hl
    rw [fX0_laysWays_b2] at hf
    refine lv_iload_n (pc := 2) hx hb dX0_laysWays_2 rfl (lv_at hl 2 rfl) ?_
    refine lv_bipush (pc := 3) (v := (ii 8)) hx hb dX0_laysWays_3 (by decide) ?_
    refine lv_icmp_ge (pc := 5) (tgt := 21) hx hb dX0_laysWays_5 (by decide) (fun c1 => ?_) (fun c1 => ?_)
    · replace hf := if_t hf c1
      refine lv_iconst (pc := 21) (v := (ii 0)) hx hb dX0_laysWays_21 (by decide) ?_
      refine lv_istore_n (pc := 22) (lv' := [(2, .int (ii 0)), (0, .ref x0), (1, .int x1)]) hx hb dX0_laysWays_22 rfl hl (by decide) rfl (fun ls hl => ?_)
      exact wX0_laysWays_b23 X hr nf hf V (lv_sub hl [1, 2, 0] rfl)
    · replace hf := if_f hf c1
      refine lv_aload_n (pc := 8) hx hb dX0_laysWays_8 rfl (lv_at hl 0 rfl) ?_
      replace hf := tg_s hf; obtain ⟨ht2, hf⟩ := hf
      replace hf := bs hf; obtain ⟨a3, ha3, hf⟩ := hf
      refine x_get (pc := 9) X V okX0 ht2 20 (by decide) q380 (v := va_rf (R x0 20)) rfl dX0_laysWays_9 ?_
      refine x_topr ha3 ?_
      refine lv_iload_n (pc := 12) hx hb dX0_laysWays_12 rfl (lv_at hl 2 rfl) ?_
      refine lv_iconst (pc := 13) (v := (ii 1)) hx hb dX0_laysWays_13 (by decide) ?_
      replace hf := rA_s hf; obtain ⟨j4, hjj4, htj4, hij4, hf⟩ := hf
      replace hf := nm_s hf; obtain ⟨I5, hI5, hf⟩ := hf
      refine x_iast (pc := 14) X V htj4 hij4 hjj4 hI5 dX0_laysWays_14 (fun H locs V => ?_)
      replace hf := nm_s hf; obtain ⟨u6, hu6, hf⟩ := hf
      refine lv_iinc (pc := 15) (v := u6) (lv' := [(2, .int u6), (0, .ref x0), (1, .int x1)]) hx hb dX0_laysWays_15 hl (k := 2) rfl (by rw [hu6]; rfl) (by decide) rfl (fun ls hl => ?_)
      refine lv_goto (pc := 18) (tgt := 2) hx hb dX0_laysWays_18 (by decide) ?_
      exact ih hf V (lv_sub hl [1, 2, 0] rfl)
set_option maxHeartbeats 400000 in
set_option maxRecDepth 100000 in
theorem wX0_laysWays_e {nf : Nat} {p : Program} {l : Launch} {e : Env} {s : State} {m : MethodId} {args : Array Value} {below : List Frame} {meth : Method} {c : Code} {D : va_G} {dA : Nat → ClassId} {s0 : Nat} {T : xT} {N : xT} {Z : Nat} {I : xI} {L : xL} {R : xR} {H : Heap} {locs : List Loc} {ls : Array Slot} {x0 : Nat} {x1 : Int32} {Io : xI} (X : Cx D dA s0 p m c cX0_laysWays 5 s args RX0 meth) (hr : meth.sig.returnType = none) (hf : fX0_laysWays nf T N I R x0 x1 = some Io) (V : Iv D dA s0 s T N Z I L R H locs) (hl : lv_has ls 5 [(0, .ref x0), (1, .int x1)]) : W p l e { frames := 1, cells := 0, slots := 0, locals := 60 } s m args below meth c H locs 0 0 (MQ below (xQ D dA s0 none T N Z Io L R) args s 0 0 (fun q => s0 ≤ q)) (F0 m 0 ls []) := by
  have hx := X.1.1
  have hb := X.1.2.1
  unfold fX0_laysWays at hf
  refine lv_iconst (pc := 0) (v := (ii 0)) hx hb dX0_laysWays_0 (by decide) ?_
  refine lv_istore_n (pc := 1) (lv' := [(2, .int (ii 0)), (0, .ref x0), (1, .int x1)]) hx hb dX0_laysWays_1 rfl hl (by decide) rfl (fun ls hl => ?_)
  exact wX0_laysWays_b2 X hr nf hf V (lv_sub hl [1, 2, 0] rfl)
theorem mX0_laysWays {nf : Nat} (l : Launch) (D : va_G) (dA : Nat → ClassId) (s0 : Nat) {T : xT} {N : xT} {Z : Nat} {I : xI} {L : xL} {R : xR} {x0 : Nat} {x1 : Int32} {Io : xI} (hf : fX0_laysWays nf T N I R x0 x1 = some Io) : XMet l D dA s0 yX0_laysWays (ws_ yX0_laysWays cX0_laysWays 5 (none)) (1) (60) [.ref x0, .int x1] T N Z I L R none T N Z Io L R 0 0 :=
  x_start (own := RX0) rfl (by decide) (Nat.le_of_ble_eq_true rfl) (lv := [(0, .ref x0), (1, .int x1)]) rfl (fun p e s m below meth c ls X hr hini V hl => wX0_laysWays_e X hr hf V hl)
set_option maxHeartbeats 400000 in
set_option maxRecDepth 100000 in
theorem wX0_gone_b32 {nf : Nat} {p : Program} {l : Launch} {e : Env} {s : State} {m : MethodId} {args : Array Value} {below : List Frame} {meth : Method} {c : Code} {D : va_G} {dA : Nat → ClassId} {s0 : Nat} {T : xT} {N : xT} {Z : Nat} {L : xL} {R : xR}  {ro : Int32} {Io : xI} (X : Cx D dA s0 p m c cX0_gone 5 s args RX0 meth) (hr : meth.sig.returnType = (some .int))   (k : Nat) : ∀ {I : xI} {x0 : Nat} {x1 : Int32} {x2 : Int32} {x3 : Int32} {x4 : Int32} {H : Heap} {locs : List Loc} {ls : Array Slot} , fX0_gone_b32 nf T N R k I x0 x1 x2 x3 x4 = some (ro, Io) → Iv D dA s0 s T N Z I L R H locs → lv_has ls 5 [(0, .ref x0), (1, .int x1), (2, .int x2), (3, .int x3), (4, .int x4)] → W p l e { frames := 2, cells := 0, slots := 0, locals := 84 } s m args below meth c H locs 0 0 (MQ below (xQ D dA s0 (some (.int ro)) T N Z Io L R) args s 0 0 (fun q => s0 ≤ q)) (F0 m 32 ls []) := by
  have hx := X.1.1
  have hb := X.1.2.1
  induction k with
  | zero =>
    intro I x0 x1 x2 x3 x4 H locs ls hf V hl
    exact absurd (show none = some _ from hf) (fun q => nomatch q)
  | succ k ih =>
    intro I x0 x1 x2 x3 x4 H locs ls hf V hl
    rw [fX0_gone_b32] at hf
    refine lv_iload (pc := 32) hx hb dX0_gone_32 (lv_at hl 4 rfl) ?_
    refine lv_bipush (pc := 34) (v := (ii 8)) hx hb dX0_gone_34 (by decide) ?_
    refine lv_icmp_ge (pc := 36) (tgt := 76) hx hb dX0_gone_36 (by decide) (fun c1 => ?_) (fun c1 => ?_)
    · replace hf := if_t hf c1
      refine lv_iload_n (pc := 76) hx hb dX0_gone_76 rfl (lv_at hl 1 rfl) ?_
      refine lv_if_ne (pc := 77) (tgt := 84) hx hb dX0_gone_77 (by decide) (fun c2 => ?_) (fun c2 => ?_)
      · replace hf := if_f hf c2
        refine lv_iload_n (pc := 84) hx hb dX0_gone_84 rfl (lv_at hl 3 rfl) ?_
        cases hf
        exact x_iret (pc := 85) X V hr dX0_gone_85
      · replace hf := if_t hf c2
        refine lv_iload_n (pc := 80) hx hb dX0_gone_80 rfl (lv_at hl 2 rfl) ?_
        refine lv_goto (pc := 81) (tgt := 85) hx hb dX0_gone_81 (by decide) ?_
        cases hf
        exact x_iret (pc := 85) X V hr dX0_gone_85
    · replace hf := if_f hf c1
      refine lv_iload_n (pc := 39) hx hb dX0_gone_39 rfl (lv_at hl 2 rfl) ?_
      refine lv_aload_n (pc := 40) hx hb dX0_gone_40 rfl (lv_at hl 0 rfl) ?_
      replace hf := tg_s hf; obtain ⟨ht3, hf⟩ := hf
      replace hf := bs hf; obtain ⟨a4, ha4, hf⟩ := hf
      refine x_get (pc := 41) X V okX0 ht3 20 (by decide) q380 (v := va_rf (R x0 20)) rfl dX0_gone_41 ?_
      refine x_topr ha4 ?_
      refine lv_iload (pc := 44) hx hb dX0_gone_44 (lv_at hl 4 rfl) ?_
      replace hf := rA_s hf; obtain ⟨j5, hjj5, htj5, hij5, hf⟩ := hf
      refine x_iald (pc := 46) X V htj5 hij5 hjj5 dX0_gone_46 ?_
      refine lv_iadd (pc := 47) hx hb dX0_gone_47 ?_
      replace hf := nm_s hf; obtain ⟨u6, hu6, hf⟩ := hf
      refine x_topi hu6 ?_
      refine lv_istore_n (pc := 48) (lv' := [(2, .int u6), (0, .ref x0), (1, .int x1), (3, .int x3), (4, .int x4)]) hx hb dX0_gone_48 rfl hl (by decide) rfl (fun ls hl => ?_)
      refine lv_iload_n (pc := 49) hx hb dX0_gone_49 rfl (lv_at hl 3 rfl) ?_
      refine lv_aload_n (pc := 50) hx hb dX0_gone_50 rfl (lv_at hl 1 rfl) ?_
      refine x_get (pc := 51) X V okX0 ht3 20 (by decide) q380 (v := va_rf (R x0 20)) rfl dX0_gone_51 ?_
      refine x_topr ha4 ?_
      refine lv_iload (pc := 54) hx hb dX0_gone_54 (lv_at hl 4 rfl) ?_
      refine x_iald (pc := 56) X V htj5 hij5 hjj5 dX0_gone_56 ?_
      refine lv_if_le (pc := 57) (tgt := 67) hx hb dX0_gone_57 (by decide) (fun c7 => ?_) (fun c7 => ?_)
      · replace hf := if_t hf c7
        refine lv_iconst (pc := 67) (v := (ii 0)) hx hb dX0_gone_67 (by decide) ?_
        refine lv_ior (pc := 68) hx hb dX0_gone_68 ?_
        replace hf := nm_s hf; obtain ⟨u8, hu8, hf⟩ := hf
        refine x_topi hu8 ?_
        refine lv_istore_n (pc := 69) (lv' := [(3, .int u8), (2, .int u6), (0, .ref x0), (1, .int x1), (4, .int x4)]) hx hb dX0_gone_69 rfl hl (by decide) rfl (fun ls hl => ?_)
        replace hf := nm_s hf; obtain ⟨u9, hu9, hf⟩ := hf
        refine lv_iinc (pc := 70) (v := u9) (lv' := [(4, .int u9), (3, .int u8), (2, .int u6), (0, .ref x0), (1, .int x1)]) hx hb dX0_gone_70 hl (k := 4) rfl (by rw [hu9]; rfl) (by decide) rfl (fun ls hl => ?_)
        refine lv_goto (pc := 73) (tgt := 32) hx hb dX0_gone_73 (by decide) ?_
        exact ih hf V (lv_sub hl [3, 4, 2, 1, 0] rfl)
      · replace hf := if_f hf c7
        refine lv_iconst (pc := 60) (v := (ii 1)) hx hb dX0_gone_60 (by decide) ?_
        refine lv_iload (pc := 61) hx hb dX0_gone_61 (lv_at hl 4 rfl) ?_
        refine lv_ishl (pc := 63) hx hb dX0_gone_63 ?_
        refine lv_goto (pc := 64) (tgt := 68) hx hb dX0_gone_64 (by decide) ?_
        refine lv_ior (pc := 68) hx hb dX0_gone_68 ?_
        replace hf := nm_s hf; obtain ⟨u10, hu10, hf⟩ := hf
        refine x_topi hu10 ?_
        refine lv_istore_n (pc := 69) (lv' := [(3, .int u10), (2, .int u6), (0, .ref x0), (1, .int x1), (4, .int x4)]) hx hb dX0_gone_69 rfl hl (by decide) rfl (fun ls hl => ?_)
        replace hf := nm_s hf; obtain ⟨u11, hu11, hf⟩ := hf
        refine lv_iinc (pc := 70) (v := u11) (lv' := [(4, .int u11), (3, .int u10), (2, .int u6), (0, .ref x0), (1, .int x1)]) hx hb dX0_gone_70 hl (k := 4) rfl (by rw [hu11]; rfl) (by decide) rfl (fun ls hl => ?_)
        refine lv_goto (pc := 73) (tgt := 32) hx hb dX0_gone_73 (by decide) ?_
        exact ih hf V (lv_sub hl [3, 4, 2, 1, 0] rfl)
set_option maxHeartbeats 400000 in
set_option maxRecDepth 100000 in
theorem wX0_gone_b22 {nf : Nat} {p : Program} {l : Launch} {e : Env} {s : State} {m : MethodId} {args : Array Value} {below : List Frame} {meth : Method} {c : Code} {D : va_G} {dA : Nat → ClassId} {s0 : Nat} {T : xT} {N : xT} {Z : Nat} {I : xI} {L : xL} {R : xR} {H : Heap} {locs : List Loc} {ls : Array Slot}  {x0 : Nat} {x1 : Int32} {z0 : Nat} {z1 : Int32} {ro : Int32} {Io : xI} (X : Cx D dA s0 p m c cX0_gone 5 s args RX0 meth) (hr : meth.sig.returnType = (some .int))   (hf : fX0_gone_b22 nf T N I R x0 x1 z0 z1 = some (ro, Io)) (V : Iv D dA s0 s T N Z I L R H locs) (hl : lv_has ls 5 [(0, .ref x0), (1, .int x1)]) : W p l e { frames := 2, cells := 0, slots := 0, locals := 84 } s m args below meth c H locs 0 0 (MQ below (xQ D dA s0 (some (.int ro)) T N Z Io L R) args s 0 0 (fun q => s0 ≤ q)) (F0 m 22 ls [.int z1, .ref z0]) := by
  have hx := X.1.1
  have hb := X.1.2.1
  unfold fX0_gone_b22 at hf
  replace hf := tg_s hf; obtain ⟨ht3, hf⟩ := hf
  replace hf := bs hf; obtain ⟨I1, hk_2, hf⟩ := hf
  refine x_callV0 (pc := 22) (As := [.int z1]) (rest := []) X V (mX0_laysWays l D dA s0 hk_2) okX0 ht3 q1347 q1349 qs33 q119 q1350 ⟨rfl, hsX0_laysWays⟩ ⟨Nat.le_of_ble_eq_true rfl, Nat.le_of_ble_eq_true rfl⟩ rfl hl.1 rfl (Nat.le_of_ble_eq_true rfl) dX0_gone_22 ⟨Nat.zero_le _, Nat.zero_le _⟩ (fun H locs V => W.eq (g2 := F0 m 25 ls []) rfl ?_)
  refine lv_iconst (pc := 25) (v := (ii 0)) hx hb dX0_gone_25 (by decide) ?_
  refine lv_istore_n (pc := 26) (lv' := [(2, .int (ii 0)), (0, .ref x0), (1, .int x1)]) hx hb dX0_gone_26 rfl hl (by decide) rfl (fun ls hl => ?_)
  refine lv_iconst (pc := 27) (v := (ii 0)) hx hb dX0_gone_27 (by decide) ?_
  refine lv_istore_n (pc := 28) (lv' := [(3, .int (ii 0)), (2, .int (ii 0)), (0, .ref x0), (1, .int x1)]) hx hb dX0_gone_28 rfl hl (by decide) rfl (fun ls hl => ?_)
  refine lv_iconst (pc := 29) (v := (ii 0)) hx hb dX0_gone_29 (by decide) ?_
  refine lv_istore (pc := 30) (lv' := [(4, .int (ii 0)), (3, .int (ii 0)), (2, .int (ii 0)), (0, .ref x0), (1, .int x1)]) hx hb dX0_gone_30 hl (by decide) rfl (fun ls hl => ?_)
  exact wX0_gone_b32 X hr nf hf V (lv_sub hl [3, 4, 2, 1, 0] rfl)
set_option maxHeartbeats 400000 in
set_option maxRecDepth 100000 in
theorem wX0_gone_e {nf : Nat} {p : Program} {l : Launch} {e : Env} {s : State} {m : MethodId} {args : Array Value} {below : List Frame} {meth : Method} {c : Code} {D : va_G} {dA : Nat → ClassId} {s0 : Nat} {T : xT} {N : xT} {Z : Nat} {I : xI} {L : xL} {R : xR} {H : Heap} {locs : List Loc} {ls : Array Slot} {x0 : Nat} {x1 : Int32} {ro : Int32} {Io : xI} (X : Cx D dA s0 p m c cX0_gone 5 s args RX0 meth) (hr : meth.sig.returnType = (some .int)) (hf : fX0_gone nf T N I R x0 x1 = some (ro, Io)) (V : Iv D dA s0 s T N Z I L R H locs) (hl : lv_has ls 5 [(0, .ref x0), (1, .int x1)]) : W p l e { frames := 2, cells := 0, slots := 0, locals := 84 } s m args below meth c H locs 0 0 (MQ below (xQ D dA s0 (some (.int ro)) T N Z Io L R) args s 0 0 (fun q => s0 ≤ q)) (F0 m 0 ls []) := by
  have hx := X.1.1
  have hb := X.1.2.1
  unfold fX0_gone at hf
  refine lv_iload_n (pc := 0) hx hb dX0_gone_0 rfl (lv_at hl 1 rfl) ?_
  refine lv_iconst (pc := 1) (v := (ii 0)) hx hb dX0_gone_1 (by decide) ?_
  refine lv_iconst (pc := 2) (v := (ii 2)) hx hb dX0_gone_2 (by decide) ?_
  replace hf := bs hf; obtain ⟨r1, hk_2, hf⟩ := hf
  refine x_callS0 (pc := 3) (As := [.int x1, .int (ii 0), .int (ii 2)]) (rest := []) X V (mX0_in l D dA s0 hk_2) q449 q450 q119 q451 hsX0_in ⟨Nat.le_of_ble_eq_true rfl, Nat.le_of_ble_eq_true rfl⟩ rfl hl.1 rfl (Nat.le_of_ble_eq_true rfl) dX0_gone_3 ⟨Nat.zero_le _, Nat.zero_le _⟩ (fun H locs V => W.eq (g2 := F0 m 6 ls [.int r1]) rfl ?_)
  refine lv_if_ne (pc := 6) (tgt := 11) hx hb dX0_gone_6 (by decide) (fun c3 => ?_) (fun c3 => ?_)
  · replace hf := if_f hf c3
    refine lv_aload_n (pc := 11) hx hb dX0_gone_11 rfl (lv_at hl 0 rfl) ?_
    refine lv_iload_n (pc := 12) hx hb dX0_gone_12 rfl (lv_at hl 1 rfl) ?_
    refine lv_iconst (pc := 13) (v := (ii 1)) hx hb dX0_gone_13 (by decide) ?_
    refine lv_icmp_eq (pc := 14) (tgt := 21) hx hb dX0_gone_14 (by decide) (fun c4 => ?_) (fun c4 => ?_)
    · replace hf := if_t hf c4
      refine lv_iconst (pc := 21) (v := (ii 0)) hx hb dX0_gone_21 (by decide) ?_
      exact wX0_gone_b22 X hr hf V (lv_sub hl [0, 1] rfl)
    · replace hf := if_f hf c4
      refine lv_iconst (pc := 17) (v := (ii 1)) hx hb dX0_gone_17 (by decide) ?_
      refine lv_goto (pc := 18) (tgt := 22) hx hb dX0_gone_18 (by decide) ?_
      exact wX0_gone_b22 X hr hf V (lv_sub hl [0, 1] rfl)
  · replace hf := if_t hf c3
    refine lv_iconst (pc := 9) (v := (-1 : Int32)) hx hb dX0_gone_9 (by decide) ?_
    cases hf
    exact x_iret (pc := 10) X V hr dX0_gone_10
theorem mX0_gone {nf : Nat} (l : Launch) (D : va_G) (dA : Nat → ClassId) (s0 : Nat) {T : xT} {N : xT} {Z : Nat} {I : xI} {L : xL} {R : xR} {x0 : Nat} {x1 : Int32} {ro : Int32} {Io : xI} (hf : fX0_gone nf T N I R x0 x1 = some (ro, Io)) : XMet l D dA s0 yX0_gone (ws_ yX0_gone cX0_gone 5 ((some .int))) (2) (84) [.ref x0, .int x1] T N Z I L R (some (.int ro)) T N Z Io L R 0 0 :=
  x_start (own := RX0) rfl (by decide) (Nat.le_of_ble_eq_true rfl) (lv := [(0, .ref x0), (1, .int x1)]) rfl (fun p e s m below meth c ls X hr hini V hl => wX0_gone_e X hr hf V hl)
set_option maxHeartbeats 400000 in
set_option maxRecDepth 100000 in
theorem wX0_named_b14 {nf : Nat} {p : Program} {l : Launch} {e : Env} {s : State} {m : MethodId} {args : Array Value} {below : List Frame} {meth : Method} {c : Code} {D : va_G} {dA : Nat → ClassId} {s0 : Nat} {T : xT} {N : xT} {Z : Nat} {I : xI} {L : xL} {R : xR}  {ro : Int32} (X : Cx D dA s0 p m c cX0_named 3 s args RX0 meth) (hr : meth.sig.returnType = (some .int))   (k : Nat) : ∀ {x0 : Nat} {x1 : Int32} {x2 : Int32} {H : Heap} {locs : List Loc} {ls : Array Slot} , fX0_named_b14 nf T N I R k x0 x1 x2 = some ro → Iv D dA s0 s T N Z I L R H locs → lv_has ls 3 [(0, .ref x0), (1, .int x1), (2, .int x2)] → W p l e { frames := 1, cells := 0, slots := 0, locals := 22 } s m args below meth c H locs 0 0 (MQ below (xQ D dA s0 (some (.int ro)) T N Z I L R) args s 0 0 (fun q => s0 ≤ q)) (F0 m 14 ls []) := by
  have hx := X.1.1
  have hb := X.1.2.1
  induction k with
  | zero =>
    intro x0 x1 x2 H locs ls hf V hl
    exact absurd (show none = some _ from hf) (fun q => nomatch q)
  | succ k ih =>
    intro x0 x1 x2 H locs ls hf V hl
    rw [fX0_named_b14] at hf
    refine lv_iload_n (pc := 14) hx hb dX0_named_14 rfl (lv_at hl 2 rfl) ?_
    refine lv_aload_n (pc := 15) hx hb dX0_named_15 rfl (lv_at hl 0 rfl) ?_
    replace hf := tg_s hf; obtain ⟨ht1, hf⟩ := hf
    replace hf := bs hf; obtain ⟨a2, ha2, hf⟩ := hf
    refine x_get (pc := 16) X V okX0 ht1 2 (by decide) q362 (v := va_rf (R x0 2)) rfl dX0_named_16 ?_
    refine x_topr ha2 ?_
    replace hf := tg_s hf; obtain ⟨ht3, hf⟩ := hf
    refine x_getN (pc := 19) X V okX1 ht3 8 (by decide) q238 (v := .int (I a2 8)) rfl dX0_named_19 ?_
    refine lv_icmp_ge (pc := 22) (tgt := 46) hx hb dX0_named_22 (by decide) (fun c4 => ?_) (fun c4 => ?_)
    · replace hf := if_t hf c4
      refine lv_iconst (pc := 46) (v := (-1 : Int32)) hx hb dX0_named_46 (by decide) ?_
      cases hf
      exact x_iret (pc := 47) X V hr dX0_named_47
    · replace hf := if_f hf c4
      refine lv_aload_n (pc := 25) hx hb dX0_named_25 rfl (lv_at hl 0 rfl) ?_
      replace hf := bs hf; obtain ⟨r5, hk_6, hf⟩ := hf
      refine x_callV0 (pc := 26) (As := []) (rest := []) X V (mX0_table l D dA s0 hk_6) okX0 ht1 q568 q570 qs6 q119 q571 ⟨rfl, hsX0_table⟩ ⟨Nat.le_of_ble_eq_true rfl, Nat.le_of_ble_eq_true rfl⟩ rfl hl.1 rfl (Nat.le_of_ble_eq_true rfl) dX0_named_26 ⟨Nat.zero_le _, Nat.zero_le _⟩ (fun H locs V => W.eq (g2 := F0 m 29 ls [.ref r5]) rfl ?_)
      replace hf := tg_s hf; obtain ⟨ht7, hf⟩ := hf
      replace hf := bs hf; obtain ⟨a8, ha8, hf⟩ := hf
      refine x_getN (pc := 29) X V okX2 ht7 2 (by decide) q180 (v := va_rf (R r5 2)) rfl dX0_named_29 ?_
      refine x_topr ha8 ?_
      refine lv_iload_n (pc := 32) hx hb dX0_named_32 rfl (lv_at hl 2 rfl) ?_
      replace hf := rA_s hf; obtain ⟨j9, hjj9, htj9, hij9, hf⟩ := hf
      refine x_iald (pc := 33) X V htj9 hij9 hjj9 dX0_named_33 ?_
      refine lv_iload_n (pc := 34) hx hb dX0_named_34 rfl (lv_at hl 1 rfl) ?_
      refine lv_icmp_ne (pc := 35) (tgt := 40) hx hb dX0_named_35 (by decide) (fun c10 => ?_) (fun c10 => ?_)
      · replace hf := if_f hf c10
        replace hf := nm_s hf; obtain ⟨u11, hu11, hf⟩ := hf
        refine lv_iinc (pc := 40) (v := u11) (lv' := [(2, .int u11), (0, .ref x0), (1, .int x1)]) hx hb dX0_named_40 hl (k := 2) rfl (by rw [hu11]; rfl) (by decide) rfl (fun ls hl => ?_)
        refine lv_goto (pc := 43) (tgt := 14) hx hb dX0_named_43 (by decide) ?_
        exact ih hf V (lv_sub hl [1, 2, 0] rfl)
      · replace hf := if_t hf c10
        refine lv_iload_n (pc := 38) hx hb dX0_named_38 rfl (lv_at hl 2 rfl) ?_
        cases hf
        exact x_iret (pc := 39) X V hr dX0_named_39
set_option maxHeartbeats 400000 in
set_option maxRecDepth 100000 in
theorem wX0_named_e {nf : Nat} {p : Program} {l : Launch} {e : Env} {s : State} {m : MethodId} {args : Array Value} {below : List Frame} {meth : Method} {c : Code} {D : va_G} {dA : Nat → ClassId} {s0 : Nat} {T : xT} {N : xT} {Z : Nat} {I : xI} {L : xL} {R : xR} {H : Heap} {locs : List Loc} {ls : Array Slot} {x0 : Nat} {x1 : Int32} {ro : Int32} (X : Cx D dA s0 p m c cX0_named 3 s args RX0 meth) (hr : meth.sig.returnType = (some .int)) (hf : fX0_named nf T N I R x0 x1 = some ro) (V : Iv D dA s0 s T N Z I L R H locs) (hl : lv_has ls 3 [(0, .ref x0), (1, .int x1)]) : W p l e { frames := 1, cells := 0, slots := 0, locals := 22 } s m args below meth c H locs 0 0 (MQ below (xQ D dA s0 (some (.int ro)) T N Z I L R) args s 0 0 (fun q => s0 ≤ q)) (F0 m 0 ls []) := by
  have hx := X.1.1
  have hb := X.1.2.1
  unfold fX0_named at hf
  refine lv_iload_n (pc := 0) hx hb dX0_named_0 rfl (lv_at hl 1 rfl) ?_
  refine lv_iconst (pc := 1) (v := (ii 0)) hx hb dX0_named_1 (by decide) ?_
  refine lv_bipush (pc := 2) (v := (ii 19)) hx hb dX0_named_2 (by decide) ?_
  replace hf := bs hf; obtain ⟨r1, hk_2, hf⟩ := hf
  refine x_callS0 (pc := 4) (As := [.int x1, .int (ii 0), .int (ii 19)]) (rest := []) X V (mX0_in l D dA s0 hk_2) q449 q450 q119 q451 hsX0_in ⟨Nat.le_of_ble_eq_true rfl, Nat.le_of_ble_eq_true rfl⟩ rfl hl.1 rfl (Nat.le_of_ble_eq_true rfl) dX0_named_4 ⟨Nat.zero_le _, Nat.zero_le _⟩ (fun H locs V => W.eq (g2 := F0 m 7 ls [.int r1]) rfl ?_)
  refine lv_if_ne (pc := 7) (tgt := 12) hx hb dX0_named_7 (by decide) (fun c3 => ?_) (fun c3 => ?_)
  · replace hf := if_f hf c3
    refine lv_iconst (pc := 12) (v := (ii 0)) hx hb dX0_named_12 (by decide) ?_
    refine lv_istore_n (pc := 13) (lv' := [(2, .int (ii 0)), (0, .ref x0), (1, .int x1)]) hx hb dX0_named_13 rfl hl (by decide) rfl (fun ls hl => ?_)
    exact wX0_named_b14 X hr nf hf V (lv_sub hl [1, 2, 0] rfl)
  · replace hf := if_t hf c3
    refine lv_iconst (pc := 10) (v := (-1 : Int32)) hx hb dX0_named_10 (by decide) ?_
    cases hf
    exact x_iret (pc := 11) X V hr dX0_named_11
theorem mX0_named {nf : Nat} (l : Launch) (D : va_G) (dA : Nat → ClassId) (s0 : Nat) {T : xT} {N : xT} {Z : Nat} {I : xI} {L : xL} {R : xR} {x0 : Nat} {x1 : Int32} {ro : Int32} (hf : fX0_named nf T N I R x0 x1 = some ro) : XMet l D dA s0 yX0_named (ws_ yX0_named cX0_named 3 ((some .int))) (1) (22) [.ref x0, .int x1] T N Z I L R (some (.int ro)) T N Z I L R 0 0 :=
  x_start (own := RX0) rfl (by decide) (Nat.le_of_ble_eq_true rfl) (lv := [(0, .ref x0), (1, .int x1)]) rfl (fun p e s m below meth c ls X hr hini V hl => wX0_named_e X hr hf V hl)
set_option maxHeartbeats 400000 in
set_option maxRecDepth 100000 in
theorem wX0_nearerEnd_e {p : Program} {l : Launch} {e : Env} {s : State} {m : MethodId} {args : Array Value} {below : List Frame} {meth : Method} {c : Code} {D : va_G} {dA : Nat → ClassId} {s0 : Nat} {T : xT} {N : xT} {Z : Nat} {I : xI} {L : xL} {R : xR} {H : Heap} {locs : List Loc} {ls : Array Slot} {x0 : Nat} {x1 : Int32} {x2 : Int32} {ro : Int32} (X : Cx D dA s0 p m c cX0_nearerEnd 5 s args RX0 meth) (hr : meth.sig.returnType = (some .int)) (hf : fX0_nearerEnd T N I R x0 x1 x2 = some ro) (V : Iv D dA s0 s T N Z I L R H locs) (hl : lv_has ls 5 [(0, .ref x0), (1, .int x1), (2, .int x2)]) : W p l e { frames := 1, cells := 0, slots := 0, locals := 23 } s m args below meth c H locs 0 0 (MQ below (xQ D dA s0 (some (.int ro)) T N Z I L R) args s 0 0 (fun q => s0 ≤ q)) (F0 m 0 ls []) := by
  have hx := X.1.1
  have hb := X.1.2.1
  unfold fX0_nearerEnd at hf
  refine lv_aload_n (pc := 0) hx hb dX0_nearerEnd_0 rfl (lv_at hl 0 rfl) ?_
  replace hf := tg_s hf; obtain ⟨ht1, hf⟩ := hf
  replace hf := bs hf; obtain ⟨a2, ha2, hf⟩ := hf
  refine x_get (pc := 1) X V okX0 ht1 2 (by decide) q362 (v := va_rf (R x0 2)) rfl dX0_nearerEnd_1 ?_
  refine x_topr ha2 ?_
  replace hf := tg_s hf; obtain ⟨ht3, hf⟩ := hf
  replace hf := bs hf; obtain ⟨a4, ha4, hf⟩ := hf
  refine x_getN (pc := 4) X V okX1 ht3 1 (by decide) q224 (v := va_rf (R a2 1)) rfl dX0_nearerEnd_4 ?_
  refine x_topr ha4 ?_
  refine lv_iload_n (pc := 7) hx hb dX0_nearerEnd_7 rfl (lv_at hl 2 rfl) ?_
  replace hf := rA_s hf; obtain ⟨j5, hjj5, htj5, hij5, hf⟩ := hf
  refine x_iald (pc := 8) X V htj5 hij5 hjj5 dX0_nearerEnd_8 ?_
  refine lv_aload_n (pc := 9) hx hb dX0_nearerEnd_9 rfl (lv_at hl 0 rfl) ?_
  refine x_get (pc := 10) X V okX0 ht1 2 (by decide) q362 (v := va_rf (R x0 2)) rfl dX0_nearerEnd_10 ?_
  refine x_topr ha2 ?_
  replace hf := bs hf; obtain ⟨a6, ha6, hf⟩ := hf
  refine x_getN (pc := 13) X V okX1 ht3 2 (by decide) q226 (v := va_rf (R a2 2)) rfl dX0_nearerEnd_13 ?_
  refine x_topr ha6 ?_
  refine lv_iload_n (pc := 16) hx hb dX0_nearerEnd_16 rfl (lv_at hl 2 rfl) ?_
  replace hf := rA_s hf; obtain ⟨j7, hjj7, htj7, hij7, hf⟩ := hf
  refine x_iald (pc := 17) X V htj7 hij7 hjj7 dX0_nearerEnd_17 ?_
  refine va_mmin (pc := 18) hx hb (X.1.2.2.1.trans hl.1.symm) X.1.2.2.2.1 (X.1.2.2.2.2 _ q1293) (X.1.2.2.2.2 _ q521) (X.1.2.2.2.2 _ q132) (X.1.2.2.2.2 _ q522) (Nat.le_of_ble_eq_true rfl) (Nat.le_of_ble_eq_true rfl) (Nat.zero_le _) (Nat.zero_le _) dX0_nearerEnd_18 ?_
  replace hf := nm_s hf; obtain ⟨u8, hu8, hf⟩ := hf
  refine x_topi hu8 ?_
  refine lv_istore_n (pc := 21) (lv' := [(3, .int u8), (0, .ref x0), (1, .int x1), (2, .int x2)]) hx hb dX0_nearerEnd_21 rfl hl (by decide) rfl (fun ls hl => ?_)
  refine lv_aload_n (pc := 22) hx hb dX0_nearerEnd_22 rfl (lv_at hl 1 rfl) ?_
  refine x_get (pc := 23) X V okX0 ht1 2 (by decide) q362 (v := va_rf (R x0 2)) rfl dX0_nearerEnd_23 ?_
  refine x_topr ha2 ?_
  refine x_getN (pc := 26) X V okX1 ht3 1 (by decide) q224 (v := va_rf (R a2 1)) rfl dX0_nearerEnd_26 ?_
  refine x_topr ha4 ?_
  refine lv_iload_n (pc := 29) hx hb dX0_nearerEnd_29 rfl (lv_at hl 3 rfl) ?_
  refine x_iald (pc := 30) X V htj5 hij5 hjj5 dX0_nearerEnd_30 ?_
  refine lv_aload_n (pc := 31) hx hb dX0_nearerEnd_31 rfl (lv_at hl 1 rfl) ?_
  refine x_get (pc := 32) X V okX0 ht1 2 (by decide) q362 (v := va_rf (R x0 2)) rfl dX0_nearerEnd_32 ?_
  refine x_topr ha2 ?_
  refine x_getN (pc := 35) X V okX1 ht3 2 (by decide) q226 (v := va_rf (R a2 2)) rfl dX0_nearerEnd_35 ?_
  refine x_topr ha6 ?_
  refine lv_iload_n (pc := 38) hx hb dX0_nearerEnd_38 rfl (lv_at hl 3 rfl) ?_
  refine x_iald (pc := 39) X V htj7 hij7 hjj7 dX0_nearerEnd_39 ?_
  refine va_mmax (pc := 40) hx hb (X.1.2.2.1.trans hl.1.symm) X.1.2.2.2.1 (X.1.2.2.2.2 _ q1310) (X.1.2.2.2.2 _ q534) (X.1.2.2.2.2 _ q132) (X.1.2.2.2.2 _ q535) (Nat.le_of_ble_eq_true rfl) (Nat.le_of_ble_eq_true rfl) (Nat.zero_le _) (Nat.zero_le _) dX0_nearerEnd_40 ?_
  replace hf := nm_s hf; obtain ⟨u9, hu9, hf⟩ := hf
  refine x_topi hu9 ?_
  refine lv_istore (pc := 43) (lv' := [(4, .int u9), (3, .int u8), (0, .ref x0), (1, .int x1), (2, .int x2)]) hx hb dX0_nearerEnd_43 hl (by decide) rfl (fun ls hl => ?_)
  refine lv_aload_n (pc := 45) hx hb dX0_nearerEnd_45 rfl (lv_at hl 2 rfl) ?_
  refine lv_iload_n (pc := 46) hx hb dX0_nearerEnd_46 rfl (lv_at hl 3 rfl) ?_
  refine lv_iload (pc := 47) hx hb dX0_nearerEnd_47 (lv_at hl 0 rfl) ?_
  replace hf := bs hf; obtain ⟨r10, hk_11, hf⟩ := hf
  refine x_callV0 (pc := 49) (As := [.int x1, .int u9]) (rest := []) X V (mX0_farOf l D dA s0 hk_11) okX0 ht1 q1294 q1296 qs29 q119 q1297 ⟨rfl, hsX0_farOf⟩ ⟨Nat.le_of_ble_eq_true rfl, Nat.le_of_ble_eq_true rfl⟩ rfl hl.1 rfl (Nat.le_of_ble_eq_true rfl) dX0_nearerEnd_49 ⟨Nat.zero_le _, Nat.zero_le _⟩ (fun H locs V => W.eq (g2 := F0 m 52 ls [.int r10]) rfl ?_)
  refine lv_aload_n (pc := 52) hx hb dX0_nearerEnd_52 rfl (lv_at hl 2 rfl) ?_
  refine lv_iload_n (pc := 53) hx hb dX0_nearerEnd_53 rfl (lv_at hl 3 rfl) ?_
  refine lv_iload_n (pc := 54) hx hb dX0_nearerEnd_54 rfl (lv_at hl 1 rfl) ?_
  replace hf := bs hf; obtain ⟨r12, hk_13, hf⟩ := hf
  refine x_callV0 (pc := 55) (As := [.int x1, .int u8]) (rest := [.int r10]) X V (mX0_farOf l D dA s0 hk_13) okX0 ht1 q1294 q1296 qs29 q119 q1297 ⟨rfl, hsX0_farOf⟩ ⟨Nat.le_of_ble_eq_true rfl, Nat.le_of_ble_eq_true rfl⟩ rfl hl.1 rfl (Nat.le_of_ble_eq_true rfl) dX0_nearerEnd_55 ⟨Nat.zero_le _, Nat.zero_le _⟩ (fun H locs V => W.eq (g2 := F0 m 58 ls [.int r12, .int r10]) rfl ?_)
  refine lv_icmp_ge (pc := 58) (tgt := 66) hx hb dX0_nearerEnd_58 (by decide) (fun c14 => ?_) (fun c14 => ?_)
  · replace hf := if_t hf c14
    refine lv_iload_n (pc := 66) hx hb dX0_nearerEnd_66 rfl (lv_at hl 1 rfl) ?_
    cases hf
    exact x_iret (pc := 67) X V hr dX0_nearerEnd_67
  · replace hf := if_f hf c14
    refine lv_iload (pc := 61) hx hb dX0_nearerEnd_61 (lv_at hl 0 rfl) ?_
    refine lv_goto (pc := 63) (tgt := 67) hx hb dX0_nearerEnd_63 (by decide) ?_
    cases hf
    exact x_iret (pc := 67) X V hr dX0_nearerEnd_67
theorem mX0_nearerEnd (l : Launch) (D : va_G) (dA : Nat → ClassId) (s0 : Nat) {T : xT} {N : xT} {Z : Nat} {I : xI} {L : xL} {R : xR} {x0 : Nat} {x1 : Int32} {x2 : Int32} {ro : Int32} (hf : fX0_nearerEnd T N I R x0 x1 x2 = some ro) : XMet l D dA s0 yX0_nearerEnd (ws_ yX0_nearerEnd cX0_nearerEnd 5 ((some .int))) (1) (23) [.ref x0, .int x1, .int x2] T N Z I L R (some (.int ro)) T N Z I L R 0 0 :=
  x_start (own := RX0) rfl (by decide) (Nat.le_of_ble_eq_true rfl) (lv := [(0, .ref x0), (1, .int x1), (2, .int x2)]) rfl (fun p e s m below meth c ls X hr hini V hl => wX0_nearerEnd_e X hr hf V hl)
set_option maxHeartbeats 400000 in
set_option maxRecDepth 100000 in
theorem wX0_laneFor_b10 {nf : Nat} {p : Program} {l : Launch} {e : Env} {s : State} {m : MethodId} {args : Array Value} {below : List Frame} {meth : Method} {c : Code} {D : va_G} {dA : Nat → ClassId} {s0 : Nat} {T : xT} {N : xT} {Z : Nat} {I : xI} {L : xL} {R : xR}  {ro : Int32} (X : Cx D dA s0 p m c cX0_laneFor 6 s args RX0 meth) (hr : meth.sig.returnType = (some .int))   (k : Nat) : ∀ {x0 : Nat} {x1 : Int32} {x2 : Int32} {x3 : Int32} {x4 : Int32} {x5 : Int32} {H : Heap} {locs : List Loc} {ls : Array Slot} , fX0_laneFor_b10 nf T N I R k x0 x1 x2 x3 x4 x5 = some ro → Iv D dA s0 s T N Z I L R H locs → lv_has ls 6 [(0, .ref x0), (1, .int x1), (2, .int x2), (3, .int x3), (4, .int x4), (5, .int x5)] → W p l e { frames := 2, cells := 0, slots := 0, locals := 47 } s m args below meth c H locs 0 0 (MQ below (xQ D dA s0 (some (.int ro)) T N Z I L R) args s 0 0 (fun q => s0 ≤ q)) (F0 m 10 ls []) := by
  have hx := X.1.1
  have hb := X.1.2.1
  induction k with
  | zero =>
    intro x0 x1 x2 x3 x4 x5 H locs ls hf V hl
    exact absurd (show none = some _ from hf) (fun q => nomatch q)
  | succ k ih =>
    intro x0 x1 x2 x3 x4 x5 H locs ls hf V hl
    rw [fX0_laneFor_b10] at hf
    refine lv_iload (pc := 10) hx hb dX0_laneFor_10 (lv_at hl 5 rfl) ?_
    refine lv_aload_n (pc := 12) hx hb dX0_laneFor_12 rfl (lv_at hl 0 rfl) ?_
    replace hf := tg_s hf; obtain ⟨ht1, hf⟩ := hf
    replace hf := bs hf; obtain ⟨a2, ha2, hf⟩ := hf
    refine x_get (pc := 13) X V okX0 ht1 2 (by decide) q362 (v := va_rf (R x0 2)) rfl dX0_laneFor_13 ?_
    refine x_topr ha2 ?_
    replace hf := tg_s hf; obtain ⟨ht3, hf⟩ := hf
    refine x_getN (pc := 16) X V okX1 ht3 8 (by decide) q238 (v := .int (I a2 8)) rfl dX0_laneFor_16 ?_
    refine lv_icmp_ge (pc := 19) (tgt := 79) hx hb dX0_laneFor_19 (by decide) (fun c4 => ?_) (fun c4 => ?_)
    · replace hf := if_t hf c4
      refine lv_iload_n (pc := 79) hx hb dX0_laneFor_79 rfl (lv_at hl 3 rfl) ?_
      cases hf
      exact x_iret (pc := 80) X V hr dX0_laneFor_80
    · replace hf := if_f hf c4
      refine lv_aload_n (pc := 22) hx hb dX0_laneFor_22 rfl (lv_at hl 0 rfl) ?_
      replace hf := bs hf; obtain ⟨r5, hk_6, hf⟩ := hf
      refine x_callV0 (pc := 23) (As := []) (rest := []) X V (mX0_table l D dA s0 hk_6) okX0 ht1 q568 q570 qs6 q119 q571 ⟨rfl, hsX0_table⟩ ⟨Nat.le_of_ble_eq_true rfl, Nat.le_of_ble_eq_true rfl⟩ rfl hl.1 rfl (Nat.le_of_ble_eq_true rfl) dX0_laneFor_23 ⟨Nat.zero_le _, Nat.zero_le _⟩ (fun H locs V => W.eq (g2 := F0 m 26 ls [.ref r5]) rfl ?_)
      replace hf := tg_s hf; obtain ⟨ht7, hf⟩ := hf
      replace hf := bs hf; obtain ⟨a8, ha8, hf⟩ := hf
      refine x_getN (pc := 26) X V okX2 ht7 2 (by decide) q180 (v := va_rf (R r5 2)) rfl dX0_laneFor_26 ?_
      refine x_topr ha8 ?_
      refine lv_iload (pc := 29) hx hb dX0_laneFor_29 (lv_at hl 5 rfl) ?_
      replace hf := rA_s hf; obtain ⟨j9, hjj9, htj9, hij9, hf⟩ := hf
      refine x_iald (pc := 31) X V htj9 hij9 hjj9 dX0_laneFor_31 ?_
      refine lv_iload_n (pc := 32) hx hb dX0_laneFor_32 rfl (lv_at hl 2 rfl) ?_
      refine lv_icmp_ne (pc := 33) (tgt := 73) hx hb dX0_laneFor_33 (by decide) (fun c10 => ?_) (fun c10 => ?_)
      · replace hf := if_f hf c10
        replace hf := nm_s hf; obtain ⟨u11, hu11, hf⟩ := hf
        refine lv_iinc (pc := 73) (v := u11) (lv' := [(5, .int u11), (0, .ref x0), (1, .int x1), (2, .int x2), (3, .int x3), (4, .int x4)]) hx hb dX0_laneFor_73 hl (k := 5) rfl (by rw [hu11]; rfl) (by decide) rfl (fun ls hl => ?_)
        refine lv_goto (pc := 76) (tgt := 10) hx hb dX0_laneFor_76 (by decide) ?_
        exact ih hf V (lv_sub hl [1, 2, 3, 4, 5, 0] rfl)
      · replace hf := if_t hf c10
        refine lv_aload_n (pc := 36) hx hb dX0_laneFor_36 rfl (lv_at hl 0 rfl) ?_
        refine lv_iload_n (pc := 37) hx hb dX0_laneFor_37 rfl (lv_at hl 1 rfl) ?_
        refine lv_aload_n (pc := 38) hx hb dX0_laneFor_38 rfl (lv_at hl 0 rfl) ?_
        refine lv_iload_n (pc := 39) hx hb dX0_laneFor_39 rfl (lv_at hl 1 rfl) ?_
        refine lv_iload (pc := 40) hx hb dX0_laneFor_40 (lv_at hl 5 rfl) ?_
        replace hf := bs hf; obtain ⟨r12, hk_13, hf⟩ := hf
        refine x_callV0 (pc := 42) (As := [.int x1, .int x5]) (rest := [.int x1, .ref x0]) X V (mX0_nearerEnd l D dA s0 hk_13) okX0 ht1 q1364 q1366 qs35 q119 q1367 ⟨rfl, hsX0_nearerEnd⟩ ⟨Nat.le_of_ble_eq_true rfl, Nat.le_of_ble_eq_true rfl⟩ rfl hl.1 rfl (Nat.le_of_ble_eq_true rfl) dX0_laneFor_42 ⟨Nat.zero_le _, Nat.zero_le _⟩ (fun H locs V => W.eq (g2 := F0 m 45 ls [.int r12, .int x1, .ref x0]) rfl ?_)
        replace hf := bs hf; obtain ⟨r14, hk_15, hf⟩ := hf
        refine x_callV0 (pc := 45) (As := [.int x1, .int r12]) (rest := []) X V (mX0_farOf l D dA s0 hk_15) okX0 ht1 q1294 q1296 qs29 q119 q1297 ⟨rfl, hsX0_farOf⟩ ⟨Nat.le_of_ble_eq_true rfl, Nat.le_of_ble_eq_true rfl⟩ rfl hl.1 rfl (Nat.le_of_ble_eq_true rfl) dX0_laneFor_45 ⟨Nat.zero_le _, Nat.zero_le _⟩ (fun H locs V => W.eq (g2 := F0 m 48 ls [.int r14]) rfl ?_)
        refine lv_iload (pc := 48) hx hb dX0_laneFor_48 (lv_at hl 4 rfl) ?_
        refine lv_icmp_lt (pc := 50) (tgt := 56) hx hb dX0_laneFor_50 (by decide) (fun c16 => ?_) (fun c16 => ?_)
        · replace hf := if_t hf c16
          refine lv_aload_n (pc := 56) hx hb dX0_laneFor_56 rfl (lv_at hl 0 rfl) ?_
          refine lv_iload_n (pc := 57) hx hb dX0_laneFor_57 rfl (lv_at hl 1 rfl) ?_
          refine lv_aload_n (pc := 58) hx hb dX0_laneFor_58 rfl (lv_at hl 0 rfl) ?_
          refine lv_iload_n (pc := 59) hx hb dX0_laneFor_59 rfl (lv_at hl 1 rfl) ?_
          refine lv_iload (pc := 60) hx hb dX0_laneFor_60 (lv_at hl 5 rfl) ?_
          replace hf := bs hf; obtain ⟨r17, hk_18, hf⟩ := hf
          refine x_callV0 (pc := 62) (As := [.int x1, .int x5]) (rest := [.int x1, .ref x0]) X V (mX0_nearerEnd l D dA s0 hk_18) okX0 ht1 q1364 q1366 qs35 q119 q1367 ⟨rfl, hsX0_nearerEnd⟩ ⟨Nat.le_of_ble_eq_true rfl, Nat.le_of_ble_eq_true rfl⟩ rfl hl.1 rfl (Nat.le_of_ble_eq_true rfl) dX0_laneFor_62 ⟨Nat.zero_le _, Nat.zero_le _⟩ (fun H locs V => W.eq (g2 := F0 m 65 ls [.int r17, .int x1, .ref x0]) rfl ?_)
          replace hf := bs hf; obtain ⟨r19, hk_20, hf⟩ := hf
          refine x_callV0 (pc := 65) (As := [.int x1, .int r17]) (rest := []) X V (mX0_farOf l D dA s0 hk_20) okX0 ht1 q1294 q1296 qs29 q119 q1297 ⟨rfl, hsX0_farOf⟩ ⟨Nat.le_of_ble_eq_true rfl, Nat.le_of_ble_eq_true rfl⟩ rfl hl.1 rfl (Nat.le_of_ble_eq_true rfl) dX0_laneFor_65 ⟨Nat.zero_le _, Nat.zero_le _⟩ (fun H locs V => W.eq (g2 := F0 m 68 ls [.int r19]) rfl ?_)
          refine lv_istore (pc := 68) (lv' := [(4, .int r19), (0, .ref x0), (1, .int x1), (2, .int x2), (3, .int x3), (5, .int x5)]) hx hb dX0_laneFor_68 hl (by decide) rfl (fun ls hl => ?_)
          refine lv_iload (pc := 70) hx hb dX0_laneFor_70 (lv_at hl 5 rfl) ?_
          refine lv_istore_n (pc := 72) (lv' := [(3, .int x5), (4, .int r19), (0, .ref x0), (1, .int x1), (2, .int x2), (5, .int x5)]) hx hb dX0_laneFor_72 rfl hl (by decide) rfl (fun ls hl => ?_)
          replace hf := nm_s hf; obtain ⟨u21, hu21, hf⟩ := hf
          refine lv_iinc (pc := 73) (v := u21) (lv' := [(5, .int u21), (3, .int x5), (4, .int r19), (0, .ref x0), (1, .int x1), (2, .int x2)]) hx hb dX0_laneFor_73 hl (k := 5) rfl (by rw [hu21]; rfl) (by decide) rfl (fun ls hl => ?_)
          refine lv_goto (pc := 76) (tgt := 10) hx hb dX0_laneFor_76 (by decide) ?_
          exact ih hf V (lv_sub hl [3, 4, 5, 1, 2, 0] rfl)
        · replace hf := if_f hf c16
          refine lv_goto (pc := 53) (tgt := 73) hx hb dX0_laneFor_53 (by decide) ?_
          replace hf := nm_s hf; obtain ⟨u22, hu22, hf⟩ := hf
          refine lv_iinc (pc := 73) (v := u22) (lv' := [(5, .int u22), (0, .ref x0), (1, .int x1), (2, .int x2), (3, .int x3), (4, .int x4)]) hx hb dX0_laneFor_73 hl (k := 5) rfl (by rw [hu22]; rfl) (by decide) rfl (fun ls hl => ?_)
          refine lv_goto (pc := 76) (tgt := 10) hx hb dX0_laneFor_76 (by decide) ?_
          exact ih hf V (lv_sub hl [1, 2, 3, 4, 5, 0] rfl)
set_option maxHeartbeats 400000 in
set_option maxRecDepth 100000 in
theorem wX0_laneFor_e {nf : Nat} {p : Program} {l : Launch} {e : Env} {s : State} {m : MethodId} {args : Array Value} {below : List Frame} {meth : Method} {c : Code} {D : va_G} {dA : Nat → ClassId} {s0 : Nat} {T : xT} {N : xT} {Z : Nat} {I : xI} {L : xL} {R : xR} {H : Heap} {locs : List Loc} {ls : Array Slot} {x0 : Nat} {x1 : Int32} {x2 : Int32} {ro : Int32} (X : Cx D dA s0 p m c cX0_laneFor 6 s args RX0 meth) (hr : meth.sig.returnType = (some .int)) (hf : fX0_laneFor nf T N I R x0 x1 x2 = some ro) (V : Iv D dA s0 s T N Z I L R H locs) (hl : lv_has ls 6 [(0, .ref x0), (1, .int x1), (2, .int x2)]) : W p l e { frames := 2, cells := 0, slots := 0, locals := 47 } s m args below meth c H locs 0 0 (MQ below (xQ D dA s0 (some (.int ro)) T N Z I L R) args s 0 0 (fun q => s0 ≤ q)) (F0 m 0 ls []) := by
  have hx := X.1.1
  have hb := X.1.2.1
  unfold fX0_laneFor at hf
  refine lv_iconst (pc := 0) (v := (-1 : Int32)) hx hb dX0_laneFor_0 (by decide) ?_
  refine lv_istore_n (pc := 1) (lv' := [(3, .int (-1 : Int32)), (0, .ref x0), (1, .int x1), (2, .int x2)]) hx hb dX0_laneFor_1 rfl hl (by decide) rfl (fun ls hl => ?_)
  refine lv_ldcw (pc := 2) (v := (ii 1000000)) hx hb X.1.2.2.2.1 (X.1.2.2.2.2 _ q1292) dX0_laneFor_2 ?_
  refine lv_istore (pc := 5) (lv' := [(4, .int (ii 1000000)), (3, .int (-1 : Int32)), (0, .ref x0), (1, .int x1), (2, .int x2)]) hx hb dX0_laneFor_5 hl (by decide) rfl (fun ls hl => ?_)
  refine lv_iconst (pc := 7) (v := (ii 0)) hx hb dX0_laneFor_7 (by decide) ?_
  refine lv_istore (pc := 8) (lv' := [(5, .int (ii 0)), (4, .int (ii 1000000)), (3, .int (-1 : Int32)), (0, .ref x0), (1, .int x1), (2, .int x2)]) hx hb dX0_laneFor_8 hl (by decide) rfl (fun ls hl => ?_)
  exact wX0_laneFor_b10 X hr nf hf V (lv_sub hl [3, 4, 5, 2, 1, 0] rfl)
theorem mX0_laneFor {nf : Nat} (l : Launch) (D : va_G) (dA : Nat → ClassId) (s0 : Nat) {T : xT} {N : xT} {Z : Nat} {I : xI} {L : xL} {R : xR} {x0 : Nat} {x1 : Int32} {x2 : Int32} {ro : Int32} (hf : fX0_laneFor nf T N I R x0 x1 x2 = some ro) : XMet l D dA s0 yX0_laneFor (ws_ yX0_laneFor cX0_laneFor 6 ((some .int))) (2) (47) [.ref x0, .int x1, .int x2] T N Z I L R (some (.int ro)) T N Z I L R 0 0 :=
  x_start (own := RX0) rfl (by decide) (Nat.le_of_ble_eq_true rfl) (lv := [(0, .ref x0), (1, .int x1), (2, .int x2)]) rfl (fun p e s m below meth c ls X hr hini V hl => wX0_laneFor_e X hr hf V hl)
set_option maxHeartbeats 400000 in
set_option maxRecDepth 100000 in
theorem wX0_laneLong_b7 {nf : Nat} {p : Program} {l : Launch} {e : Env} {s : State} {m : MethodId} {args : Array Value} {below : List Frame} {meth : Method} {c : Code} {D : va_G} {dA : Nat → ClassId} {s0 : Nat} {T : xT} {N : xT} {Z : Nat} {I : xI} {L : xL} {R : xR}  {ro : Int32} (X : Cx D dA s0 p m c cX0_laneLong 5 s args RX0 meth) (hr : meth.sig.returnType = (some .int))   (k : Nat) : ∀ {x0 : Nat} {x1 : Int32} {x2 : Int32} {x3 : Int32} {x4 : Int32} {H : Heap} {locs : List Loc} {ls : Array Slot} , fX0_laneLong_b7 nf T N I R k x0 x1 x2 x3 x4 = some ro → Iv D dA s0 s T N Z I L R H locs → lv_has ls 5 [(0, .ref x0), (1, .int x1), (2, .int x2), (3, .int x3), (4, .int x4)] → W p l e { frames := 1, cells := 0, slots := 0, locals := 23 } s m args below meth c H locs 0 0 (MQ below (xQ D dA s0 (some (.int ro)) T N Z I L R) args s 0 0 (fun q => s0 ≤ q)) (F0 m 7 ls []) := by
  have hx := X.1.1
  have hb := X.1.2.1
  induction k with
  | zero =>
    intro x0 x1 x2 x3 x4 H locs ls hf V hl
    exact absurd (show none = some _ from hf) (fun q => nomatch q)
  | succ k ih =>
    intro x0 x1 x2 x3 x4 H locs ls hf V hl
    rw [fX0_laneLong_b7] at hf
    refine lv_iload (pc := 7) hx hb dX0_laneLong_7 (lv_at hl 4 rfl) ?_
    refine lv_aload_n (pc := 9) hx hb dX0_laneLong_9 rfl (lv_at hl 0 rfl) ?_
    replace hf := tg_s hf; obtain ⟨ht1, hf⟩ := hf
    replace hf := bs hf; obtain ⟨a2, ha2, hf⟩ := hf
    refine x_get (pc := 10) X V okX0 ht1 2 (by decide) q362 (v := va_rf (R x0 2)) rfl dX0_laneLong_10 ?_
    refine x_topr ha2 ?_
    replace hf := tg_s hf; obtain ⟨ht3, hf⟩ := hf
    refine x_getN (pc := 13) X V okX1 ht3 8 (by decide) q238 (v := .int (I a2 8)) rfl dX0_laneLong_13 ?_
    refine lv_icmp_ge (pc := 16) (tgt := 67) hx hb dX0_laneLong_16 (by decide) (fun c4 => ?_) (fun c4 => ?_)
    · replace hf := if_t hf c4
      refine lv_iload_n (pc := 67) hx hb dX0_laneLong_67 rfl (lv_at hl 3 rfl) ?_
      cases hf
      exact x_iret (pc := 68) X V hr dX0_laneLong_68
    · replace hf := if_f hf c4
      refine lv_aload_n (pc := 19) hx hb dX0_laneLong_19 rfl (lv_at hl 0 rfl) ?_
      refine x_get (pc := 20) X V okX0 ht1 2 (by decide) q362 (v := va_rf (R x0 2)) rfl dX0_laneLong_20 ?_
      refine x_topr ha2 ?_
      refine lv_iload (pc := 23) hx hb dX0_laneLong_23 (lv_at hl 4 rfl) ?_
      refine lv_iload_n (pc := 25) hx hb dX0_laneLong_25 rfl (lv_at hl 1 rfl) ?_
      replace hf := bs hf; obtain ⟨r5, hk_6, hf⟩ := hf
      refine x_callV0 (pc := 26) (As := [.int x4, .int x1]) (rest := []) X V (mX1_isAt l D dA s0 hk_6) okX1 ht3 q683 q684 q685 q120 q686 ⟨rfl, hsX1_isAt⟩ ⟨Nat.le_of_ble_eq_true rfl, Nat.le_of_ble_eq_true rfl⟩ rfl hl.1 rfl (Nat.le_of_ble_eq_true rfl) dX0_laneLong_26 ⟨Nat.zero_le _, Nat.zero_le _⟩ (fun H locs V => W.eq (g2 := F0 m 29 ls [.int r5]) rfl ?_)
      refine lv_if_eq (pc := 29) (tgt := 61) hx hb dX0_laneLong_29 (by decide) (fun c7 => ?_) (fun c7 => ?_)
      · replace hf := if_t hf c7
        replace hf := nm_s hf; obtain ⟨u8, hu8, hf⟩ := hf
        refine lv_iinc (pc := 61) (v := u8) (lv' := [(4, .int u8), (0, .ref x0), (1, .int x1), (2, .int x2), (3, .int x3)]) hx hb dX0_laneLong_61 hl (k := 4) rfl (by rw [hu8]; rfl) (by decide) rfl (fun ls hl => ?_)
        refine lv_goto (pc := 64) (tgt := 7) hx hb dX0_laneLong_64 (by decide) ?_
        exact ih hf V (lv_sub hl [1, 2, 3, 4, 0] rfl)
      · replace hf := if_f hf c7
        refine lv_aload_n (pc := 32) hx hb dX0_laneLong_32 rfl (lv_at hl 0 rfl) ?_
        refine x_get (pc := 33) X V okX0 ht1 2 (by decide) q362 (v := va_rf (R x0 2)) rfl dX0_laneLong_33 ?_
        refine x_topr ha2 ?_
        refine lv_iload (pc := 36) hx hb dX0_laneLong_36 (lv_at hl 4 rfl) ?_
        refine lv_iload_n (pc := 38) hx hb dX0_laneLong_38 rfl (lv_at hl 1 rfl) ?_
        replace hf := bs hf; obtain ⟨r9, hk_10, hf⟩ := hf
        refine x_callV0 (pc := 39) (As := [.int x4, .int x1]) (rest := []) X V (mX1_otherEnd l D dA s0 hk_10) okX1 ht3 q1232 q1233 q1234 q120 q1235 ⟨rfl, hsX1_otherEnd⟩ ⟨Nat.le_of_ble_eq_true rfl, Nat.le_of_ble_eq_true rfl⟩ rfl hl.1 rfl (Nat.le_of_ble_eq_true rfl) dX0_laneLong_39 ⟨Nat.zero_le _, Nat.zero_le _⟩ (fun H locs V => W.eq (g2 := F0 m 42 ls [.int r9]) rfl ?_)
        refine lv_iload_n (pc := 42) hx hb dX0_laneLong_42 rfl (lv_at hl 2 rfl) ?_
        refine lv_icmp_ne (pc := 43) (tgt := 61) hx hb dX0_laneLong_43 (by decide) (fun c11 => ?_) (fun c11 => ?_)
        · replace hf := if_f hf c11
          replace hf := nm_s hf; obtain ⟨u12, hu12, hf⟩ := hf
          refine lv_iinc (pc := 61) (v := u12) (lv' := [(4, .int u12), (0, .ref x0), (1, .int x1), (2, .int x2), (3, .int x3)]) hx hb dX0_laneLong_61 hl (k := 4) rfl (by rw [hu12]; rfl) (by decide) rfl (fun ls hl => ?_)
          refine lv_goto (pc := 64) (tgt := 7) hx hb dX0_laneLong_64 (by decide) ?_
          exact ih hf V (lv_sub hl [1, 2, 3, 4, 0] rfl)
        · replace hf := if_t hf c11
          refine lv_iload_n (pc := 46) hx hb dX0_laneLong_46 rfl (lv_at hl 3 rfl) ?_
          refine lv_aload_n (pc := 47) hx hb dX0_laneLong_47 rfl (lv_at hl 0 rfl) ?_
          refine x_get (pc := 48) X V okX0 ht1 2 (by decide) q362 (v := va_rf (R x0 2)) rfl dX0_laneLong_48 ?_
          refine x_topr ha2 ?_
          replace hf := bs hf; obtain ⟨a13, ha13, hf⟩ := hf
          refine x_getN (pc := 51) X V okX1 ht3 3 (by decide) q228 (v := va_rf (R a2 3)) rfl dX0_laneLong_51 ?_
          refine x_topr ha13 ?_
          refine lv_iload (pc := 54) hx hb dX0_laneLong_54 (lv_at hl 4 rfl) ?_
          replace hf := rA_s hf; obtain ⟨j14, hjj14, htj14, hij14, hf⟩ := hf
          refine x_iald (pc := 56) X V htj14 hij14 hjj14 dX0_laneLong_56 ?_
          refine va_mmin (pc := 57) hx hb (X.1.2.2.1.trans hl.1.symm) X.1.2.2.2.1 (X.1.2.2.2.2 _ q1293) (X.1.2.2.2.2 _ q521) (X.1.2.2.2.2 _ q132) (X.1.2.2.2.2 _ q522) (Nat.le_of_ble_eq_true rfl) (Nat.le_of_ble_eq_true rfl) (Nat.zero_le _) (Nat.zero_le _) dX0_laneLong_57 ?_
          replace hf := nm_s hf; obtain ⟨u15, hu15, hf⟩ := hf
          refine x_topi hu15 ?_
          refine lv_istore_n (pc := 60) (lv' := [(3, .int u15), (0, .ref x0), (1, .int x1), (2, .int x2), (4, .int x4)]) hx hb dX0_laneLong_60 rfl hl (by decide) rfl (fun ls hl => ?_)
          replace hf := nm_s hf; obtain ⟨u16, hu16, hf⟩ := hf
          refine lv_iinc (pc := 61) (v := u16) (lv' := [(4, .int u16), (3, .int u15), (0, .ref x0), (1, .int x1), (2, .int x2)]) hx hb dX0_laneLong_61 hl (k := 4) rfl (by rw [hu16]; rfl) (by decide) rfl (fun ls hl => ?_)
          refine lv_goto (pc := 64) (tgt := 7) hx hb dX0_laneLong_64 (by decide) ?_
          exact ih hf V (lv_sub hl [2, 3, 4, 1, 0] rfl)
set_option maxHeartbeats 400000 in
set_option maxRecDepth 100000 in
theorem wX0_laneLong_e {nf : Nat} {p : Program} {l : Launch} {e : Env} {s : State} {m : MethodId} {args : Array Value} {below : List Frame} {meth : Method} {c : Code} {D : va_G} {dA : Nat → ClassId} {s0 : Nat} {T : xT} {N : xT} {Z : Nat} {I : xI} {L : xL} {R : xR} {H : Heap} {locs : List Loc} {ls : Array Slot} {x0 : Nat} {x1 : Int32} {x2 : Int32} {ro : Int32} (X : Cx D dA s0 p m c cX0_laneLong 5 s args RX0 meth) (hr : meth.sig.returnType = (some .int)) (hf : fX0_laneLong nf T N I R x0 x1 x2 = some ro) (V : Iv D dA s0 s T N Z I L R H locs) (hl : lv_has ls 5 [(0, .ref x0), (1, .int x1), (2, .int x2)]) : W p l e { frames := 1, cells := 0, slots := 0, locals := 23 } s m args below meth c H locs 0 0 (MQ below (xQ D dA s0 (some (.int ro)) T N Z I L R) args s 0 0 (fun q => s0 ≤ q)) (F0 m 0 ls []) := by
  have hx := X.1.1
  have hb := X.1.2.1
  unfold fX0_laneLong at hf
  refine lv_ldcw (pc := 0) (v := (ii 1000000)) hx hb X.1.2.2.2.1 (X.1.2.2.2.2 _ q1292) dX0_laneLong_0 ?_
  refine lv_istore_n (pc := 3) (lv' := [(3, .int (ii 1000000)), (0, .ref x0), (1, .int x1), (2, .int x2)]) hx hb dX0_laneLong_3 rfl hl (by decide) rfl (fun ls hl => ?_)
  refine lv_iconst (pc := 4) (v := (ii 0)) hx hb dX0_laneLong_4 (by decide) ?_
  refine lv_istore (pc := 5) (lv' := [(4, .int (ii 0)), (3, .int (ii 1000000)), (0, .ref x0), (1, .int x1), (2, .int x2)]) hx hb dX0_laneLong_5 hl (by decide) rfl (fun ls hl => ?_)
  exact wX0_laneLong_b7 X hr nf hf V (lv_sub hl [2, 3, 4, 1, 0] rfl)
theorem mX0_laneLong {nf : Nat} (l : Launch) (D : va_G) (dA : Nat → ClassId) (s0 : Nat) {T : xT} {N : xT} {Z : Nat} {I : xI} {L : xL} {R : xR} {x0 : Nat} {x1 : Int32} {x2 : Int32} {ro : Int32} (hf : fX0_laneLong nf T N I R x0 x1 x2 = some ro) : XMet l D dA s0 yX0_laneLong (ws_ yX0_laneLong cX0_laneLong 5 ((some .int))) (1) (23) [.ref x0, .int x1, .int x2] T N Z I L R (some (.int ro)) T N Z I L R 0 0 :=
  x_start (own := RX0) rfl (by decide) (Nat.le_of_ble_eq_true rfl) (lv := [(0, .ref x0), (1, .int x1), (2, .int x2)]) rfl (fun p e s m below meth c ls X hr hini V hl => wX0_laneLong_e X hr hf V hl)
set_option maxHeartbeats 400000 in
set_option maxRecDepth 100000 in
theorem wX0_letter_b98 {nf : Nat} {p : Program} {l : Launch} {e : Env} {s : State} {m : MethodId} {args : Array Value} {below : List Frame} {meth : Method} {c : Code} {D : va_G} {dA : Nat → ClassId} {s0 : Nat} {T : xT} {N : xT} {Z : Nat} {L : xL} {R : xR} {kk80 : xI → Nat → Int32 → Int32 → Int32 → Int32 → Option (Int32 × xI)} {ro : Int32} {Io : xI} (X : Cx D dA s0 p m c cX0_letter 9 s args RX0 meth) (hr : meth.sig.returnType = (some .int)) (hk80 : ∀ {I : xI} {x0 : Nat} {x3 : Int32} {x5 : Int32} {x6 : Int32} {x7 : Int32} {H : Heap} {locs : List Loc} {ls : Array Slot} , kk80 I x0 x3 x5 x6 x7 = some (ro, Io) → Iv D dA s0 s T N Z I L R H locs → lv_has ls 9 [(0, .ref x0), (3, .int x3), (5, .int x5), (6, .int x6), (7, .int x7)] → W p l e { frames := 3, cells := 0, slots := 0, locals := 72 } s m args below meth c H locs 0 0 (MQ below (xQ D dA s0 (some (.int ro)) T N Z Io L R) args s 0 0 (fun q => s0 ≤ q)) (F0 m 80 ls []))  (k : Nat) : ∀ {I : xI} {x0 : Nat} {x3 : Int32} {x5 : Int32} {x6 : Int32} {x7 : Int32} {x8 : Int32} {H : Heap} {locs : List Loc} {ls : Array Slot} , fX0_letter_b98 nf kk80 T N R k I x0 x3 x5 x6 x7 x8 = some (ro, Io) → Iv D dA s0 s T N Z I L R H locs → lv_has ls 9 [(0, .ref x0), (3, .int x3), (5, .int x5), (6, .int x6), (7, .int x7), (8, .int x8)] → W p l e { frames := 3, cells := 0, slots := 0, locals := 72 } s m args below meth c H locs 0 0 (MQ below (xQ D dA s0 (some (.int ro)) T N Z Io L R) args s 0 0 (fun q => s0 ≤ q)) (F0 m 98 ls []) := by
  have hx := X.1.1
  have hb := X.1.2.1
  induction k with
  | zero =>
    intro I x0 x3 x5 x6 x7 x8 H locs ls hf V hl
    exact absurd (show none = some _ from hf) (fun q => nomatch q)
  | succ k ih =>
    intro I x0 x3 x5 x6 x7 x8 H locs ls hf V hl
    rw [fX0_letter_b98] at hf
    refine lv_aload_n (pc := 98) hx hb dX0_letter_98 rfl (lv_at hl 0 rfl) ?_
    refine lv_iload (pc := 99) hx hb dX0_letter_99 (lv_at hl 3 rfl) ?_
    refine lv_iload (pc := 101) hx hb dX0_letter_101 (lv_at hl 5 rfl) ?_
    replace hf := tg_s hf; obtain ⟨ht3, hf⟩ := hf
    replace hf := bs hf; obtain ⟨r1, hk_2, hf⟩ := hf
    refine x_callV0 (pc := 103) (As := [.int x6, .int x8]) (rest := []) X V (mX0_laneLong l D dA s0 hk_2) okX0 ht3 q1368 q1370 qs36 q119 q1371 ⟨rfl, hsX0_laneLong⟩ ⟨Nat.le_of_ble_eq_true rfl, Nat.le_of_ble_eq_true rfl⟩ rfl hl.1 rfl (Nat.le_of_ble_eq_true rfl) dX0_letter_103 ⟨Nat.zero_le _, Nat.zero_le _⟩ (fun H locs V => W.eq (g2 := F0 m 106 ls [.int r1]) rfl ?_)
    refine lv_aload_n (pc := 106) hx hb dX0_letter_106 rfl (lv_at hl 0 rfl) ?_
    refine lv_iload (pc := 107) hx hb dX0_letter_107 (lv_at hl 5 rfl) ?_
    refine lv_iload (pc := 109) hx hb dX0_letter_109 (lv_at hl 2 rfl) ?_
    replace hf := bs hf; obtain ⟨r4, hk_5, hf⟩ := hf
    refine x_callV0 (pc := 111) (As := [.int x8, .int x5]) (rest := [.int r1]) X V (mX0_farOf l D dA s0 hk_5) okX0 ht3 q1294 q1296 qs29 q119 q1297 ⟨rfl, hsX0_farOf⟩ ⟨Nat.le_of_ble_eq_true rfl, Nat.le_of_ble_eq_true rfl⟩ rfl hl.1 rfl (Nat.le_of_ble_eq_true rfl) dX0_letter_111 ⟨Nat.zero_le _, Nat.zero_le _⟩ (fun H locs V => W.eq (g2 := F0 m 114 ls [.int r4, .int r1]) rfl ?_)
    refine lv_iadd (pc := 114) hx hb dX0_letter_114 ?_
    refine lv_aload_n (pc := 115) hx hb dX0_letter_115 rfl (lv_at hl 0 rfl) ?_
    refine lv_iload (pc := 116) hx hb dX0_letter_116 (lv_at hl 3 rfl) ?_
    refine lv_iload (pc := 118) hx hb dX0_letter_118 (lv_at hl 2 rfl) ?_
    replace hf := bs hf; obtain ⟨r6, hk_7, hf⟩ := hf
    refine x_callV0 (pc := 120) (As := [.int x6, .int x5]) (rest := [.int (r1 + r4)]) X V (mX0_farOf l D dA s0 hk_7) okX0 ht3 q1294 q1296 qs29 q119 q1297 ⟨rfl, hsX0_farOf⟩ ⟨Nat.le_of_ble_eq_true rfl, Nat.le_of_ble_eq_true rfl⟩ rfl hl.1 rfl (Nat.le_of_ble_eq_true rfl) dX0_letter_120 ⟨Nat.zero_le _, Nat.zero_le _⟩ (fun H locs V => W.eq (g2 := F0 m 123 ls [.int r6, .int (r1 + r4)]) rfl ?_)
    refine lv_icmp_eq (pc := 123) (tgt := 132) hx hb dX0_letter_123 (by decide) (fun c8 => ?_) (fun c8 => ?_)
    · replace hf := if_t hf c8
      refine lv_iload (pc := 132) hx hb dX0_letter_132 (lv_at hl 5 rfl) ?_
      refine lv_istore (pc := 134) (lv' := [(6, .int x8), (0, .ref x0), (3, .int x3), (5, .int x5), (7, .int x7), (8, .int x8)]) hx hb dX0_letter_134 hl (by decide) rfl (fun ls hl => ?_)
      replace hf := nm_s hf; obtain ⟨u9, hu9, hf⟩ := hf
      refine lv_iinc (pc := 136) (v := u9) (lv' := [(7, .int u9), (6, .int x8), (0, .ref x0), (3, .int x3), (5, .int x5), (8, .int x8)]) hx hb dX0_letter_136 hl (k := 4) rfl (by rw [hu9]; rfl) (by decide) rfl (fun ls hl => ?_)
      refine lv_goto (pc := 139) (tgt := 80) hx hb dX0_letter_139 (by decide) ?_
      exact hk80 hf V (lv_sub hl [2, 3, 4, 1, 0] rfl)
    · replace hf := if_f hf c8
      replace hf := nm_s hf; obtain ⟨u10, hu10, hf⟩ := hf
      refine lv_iinc (pc := 126) (v := u10) (lv' := [(8, .int u10), (0, .ref x0), (3, .int x3), (5, .int x5), (6, .int x6), (7, .int x7)]) hx hb dX0_letter_126 hl (k := 5) rfl (by rw [hu10]; rfl) (by decide) rfl (fun ls hl => ?_)
      refine lv_goto (pc := 129) (tgt := 98) hx hb dX0_letter_129 (by decide) ?_
      exact ih hf V (lv_sub hl [1, 2, 3, 4, 5, 0] rfl)
set_option maxHeartbeats 400000 in
set_option maxRecDepth 100000 in
theorem wX0_letter_b80 {nf : Nat} {p : Program} {l : Launch} {e : Env} {s : State} {m : MethodId} {args : Array Value} {below : List Frame} {meth : Method} {c : Code} {D : va_G} {dA : Nat → ClassId} {s0 : Nat} {T : xT} {N : xT} {Z : Nat} {L : xL} {R : xR}  {ro : Int32} {Io : xI} (X : Cx D dA s0 p m c cX0_letter 9 s args RX0 meth) (hr : meth.sig.returnType = (some .int))   (k : Nat) : ∀ {I : xI} {x0 : Nat} {x3 : Int32} {x5 : Int32} {x6 : Int32} {x7 : Int32} {H : Heap} {locs : List Loc} {ls : Array Slot} , fX0_letter_b80 nf T N R k I x0 x3 x5 x6 x7 = some (ro, Io) → Iv D dA s0 s T N Z I L R H locs → lv_has ls 9 [(0, .ref x0), (3, .int x3), (5, .int x5), (6, .int x6), (7, .int x7)] → W p l e { frames := 3, cells := 0, slots := 0, locals := 72 } s m args below meth c H locs 0 0 (MQ below (xQ D dA s0 (some (.int ro)) T N Z Io L R) args s 0 0 (fun q => s0 ≤ q)) (F0 m 80 ls []) := by
  have hx := X.1.1
  have hb := X.1.2.1
  induction k with
  | zero =>
    intro I x0 x3 x5 x6 x7 H locs ls hf V hl
    exact absurd (show none = some _ from hf) (fun q => nomatch q)
  | succ k ih =>
    intro I x0 x3 x5 x6 x7 H locs ls hf V hl
    rw [fX0_letter_b80] at hf
    refine lv_iload (pc := 80) hx hb dX0_letter_80 (lv_at hl 4 rfl) ?_
    refine lv_iload_n (pc := 82) hx hb dX0_letter_82 rfl (lv_at hl 1 rfl) ?_
    refine lv_icmp_gt (pc := 83) (tgt := 142) hx hb dX0_letter_83 (by decide) (fun c1 => ?_) (fun c1 => ?_)
    · replace hf := if_t hf c1
      refine lv_iload (pc := 142) hx hb dX0_letter_142 (lv_at hl 3 rfl) ?_
      cases hf
      exact x_iret (pc := 144) X V hr dX0_letter_144
    · replace hf := if_f hf c1
      refine lv_iload (pc := 86) hx hb dX0_letter_86 (lv_at hl 3 rfl) ?_
      refine lv_iload (pc := 88) hx hb dX0_letter_88 (lv_at hl 2 rfl) ?_
      refine lv_icmp_ne (pc := 90) (tgt := 95) hx hb dX0_letter_90 (by decide) (fun c2 => ?_) (fun c2 => ?_)
      · replace hf := if_f hf c2
        refine lv_iconst (pc := 95) (v := (ii 0)) hx hb dX0_letter_95 (by decide) ?_
        refine lv_istore (pc := 96) (lv' := [(8, .int (ii 0)), (0, .ref x0), (3, .int x3), (5, .int x5), (6, .int x6), (7, .int x7)]) hx hb dX0_letter_96 hl (by decide) rfl (fun ls hl => ?_)
        exact wX0_letter_b98 X hr ih nf hf V (lv_sub hl [1, 2, 3, 4, 5, 0] rfl)
      · replace hf := if_t hf c2
        refine lv_iconst (pc := 93) (v := (-1 : Int32)) hx hb dX0_letter_93 (by decide) ?_
        cases hf
        exact x_iret (pc := 94) X V hr dX0_letter_94
set_option maxHeartbeats 400000 in
set_option maxRecDepth 100000 in
theorem wX0_letter_e {nf : Nat} {p : Program} {l : Launch} {e : Env} {s : State} {m : MethodId} {args : Array Value} {below : List Frame} {meth : Method} {c : Code} {D : va_G} {dA : Nat → ClassId} {s0 : Nat} {T : xT} {N : xT} {Z : Nat} {I : xI} {L : xL} {R : xR} {H : Heap} {locs : List Loc} {ls : Array Slot} {x0 : Nat} {x1 : Int32} {x2 : Int32} {x3 : Int32} {ro : Int32} {Io : xI} (X : Cx D dA s0 p m c cX0_letter 9 s args RX0 meth) (hr : meth.sig.returnType = (some .int)) (hf : fX0_letter nf T N I R x0 x1 x2 x3 = some (ro, Io)) (V : Iv D dA s0 s T N Z I L R H locs) (hl : lv_has ls 9 [(0, .ref x0), (1, .int x1), (2, .int x2), (3, .int x3)]) : W p l e { frames := 3, cells := 0, slots := 0, locals := 72 } s m args below meth c H locs 0 0 (MQ below (xQ D dA s0 (some (.int ro)) T N Z Io L R) args s 0 0 (fun q => s0 ≤ q)) (F0 m 0 ls []) := by
  have hx := X.1.1
  have hb := X.1.2.1
  unfold fX0_letter at hf
  refine lv_iload_n (pc := 0) hx hb dX0_letter_0 rfl (lv_at hl 1 rfl) ?_
  replace hf := bs hf; obtain ⟨r1, hk_2, hf⟩ := hf
  refine x_callS0 (pc := 1) (As := [.int x1]) (rest := []) X V (mX0_isCorner l D dA s0 hk_2) q561 q562 q119 q563 hsX0_isCorner ⟨Nat.le_of_ble_eq_true rfl, Nat.le_of_ble_eq_true rfl⟩ rfl hl.1 rfl (Nat.le_of_ble_eq_true rfl) dX0_letter_1 ⟨Nat.zero_le _, Nat.zero_le _⟩ (fun H locs V => W.eq (g2 := F0 m 4 ls [.int r1]) rfl ?_)
  refine lv_if_eq (pc := 4) (tgt := 23) hx hb dX0_letter_4 (by decide) (fun c3 => ?_) (fun c3 => ?_)
  · replace hf := if_t hf c3
    refine lv_iconst (pc := 23) (v := (-1 : Int32)) hx hb dX0_letter_23 (by decide) ?_
    cases hf
    exact x_iret (pc := 24) X V hr dX0_letter_24
  · replace hf := if_f hf c3
    refine lv_iload_n (pc := 7) hx hb dX0_letter_7 rfl (lv_at hl 2 rfl) ?_
    refine lv_iconst (pc := 8) (v := (ii 0)) hx hb dX0_letter_8 (by decide) ?_
    refine lv_bipush (pc := 9) (v := (ii 19)) hx hb dX0_letter_9 (by decide) ?_
    replace hf := bs hf; obtain ⟨r4, hk_5, hf⟩ := hf
    refine x_callS0 (pc := 11) (As := [.int x2, .int (ii 0), .int (ii 19)]) (rest := []) X V (mX0_in l D dA s0 hk_5) q449 q450 q119 q451 hsX0_in ⟨Nat.le_of_ble_eq_true rfl, Nat.le_of_ble_eq_true rfl⟩ rfl hl.1 rfl (Nat.le_of_ble_eq_true rfl) dX0_letter_11 ⟨Nat.zero_le _, Nat.zero_le _⟩ (fun H locs V => W.eq (g2 := F0 m 14 ls [.int r4]) rfl ?_)
    refine lv_if_eq (pc := 14) (tgt := 23) hx hb dX0_letter_14 (by decide) (fun c6 => ?_) (fun c6 => ?_)
    · replace hf := if_t hf c6
      refine lv_iconst (pc := 23) (v := (-1 : Int32)) hx hb dX0_letter_23 (by decide) ?_
      cases hf
      exact x_iret (pc := 24) X V hr dX0_letter_24
    · replace hf := if_f hf c6
      refine lv_iload_n (pc := 17) hx hb dX0_letter_17 rfl (lv_at hl 3 rfl) ?_
      refine lv_bipush (pc := 18) (v := (-2 : Int32)) hx hb dX0_letter_18 (by decide) ?_
      refine lv_icmp_ge (pc := 20) (tgt := 25) hx hb dX0_letter_20 (by decide) (fun c7 => ?_) (fun c7 => ?_)
      · replace hf := if_t hf c7
        refine lv_aload_n (pc := 25) hx hb dX0_letter_25 rfl (lv_at hl 0 rfl) ?_
        replace hf := tg_s hf; obtain ⟨ht10, hf⟩ := hf
        replace hf := bs hf; obtain ⟨I8, hk_9, hf⟩ := hf
        refine x_callV0 (pc := 26) (As := []) (rest := []) X V (mX0_laysFar l D dA s0 hk_9) okX0 ht10 q1288 q1290 qs28 q119 q1291 ⟨rfl, hsX0_laysFar⟩ ⟨Nat.le_of_ble_eq_true rfl, Nat.le_of_ble_eq_true rfl⟩ rfl hl.1 rfl (Nat.le_of_ble_eq_true rfl) dX0_letter_26 ⟨Nat.zero_le _, Nat.zero_le _⟩ (fun H locs V => W.eq (g2 := F0 m 29 ls []) rfl ?_)
        refine lv_aload_n (pc := 29) hx hb dX0_letter_29 rfl (lv_at hl 0 rfl) ?_
        refine lv_iload_n (pc := 30) hx hb dX0_letter_30 rfl (lv_at hl 1 rfl) ?_
        refine lv_iload_n (pc := 31) hx hb dX0_letter_31 rfl (lv_at hl 2 rfl) ?_
        replace hf := bs hf; obtain ⟨r11, hk_12, hf⟩ := hf
        refine x_callV0 (pc := 32) (As := [.int x1, .int x2]) (rest := []) X V (mX0_laneFor l D dA s0 hk_12) okX0 ht10 q1360 q1362 qs34 q119 q1363 ⟨rfl, hsX0_laneFor⟩ ⟨Nat.le_of_ble_eq_true rfl, Nat.le_of_ble_eq_true rfl⟩ rfl hl.1 rfl (Nat.le_of_ble_eq_true rfl) dX0_letter_32 ⟨Nat.zero_le _, Nat.zero_le _⟩ (fun H locs V => W.eq (g2 := F0 m 35 ls [.int r11]) rfl ?_)
        refine lv_istore (pc := 35) (lv' := [(4, .int r11), (0, .ref x0), (1, .int x1), (2, .int x2), (3, .int x3)]) hx hb dX0_letter_35 hl (by decide) rfl (fun ls hl => ?_)
        refine lv_iload (pc := 37) hx hb dX0_letter_37 (lv_at hl 0 rfl) ?_
        refine lv_iconst (pc := 39) (v := (-1 : Int32)) hx hb dX0_letter_39 (by decide) ?_
        refine lv_icmp_eq (pc := 40) (tgt := 49) hx hb dX0_letter_40 (by decide) (fun c13 => ?_) (fun c13 => ?_)
        · replace hf := if_t hf c13
          refine lv_iload (pc := 49) hx hb dX0_letter_49 (lv_at hl 0 rfl) ?_
          cases hf
          exact x_iret (pc := 51) X V hr dX0_letter_51
        · replace hf := if_f hf c13
          refine lv_iload_n (pc := 43) hx hb dX0_letter_43 rfl (lv_at hl 4 rfl) ?_
          refine lv_bipush (pc := 44) (v := (-2 : Int32)) hx hb dX0_letter_44 (by decide) ?_
          refine lv_icmp_ne (pc := 46) (tgt := 52) hx hb dX0_letter_46 (by decide) (fun c14 => ?_) (fun c14 => ?_)
          · replace hf := if_f hf c14
            refine lv_aload_n (pc := 52) hx hb dX0_letter_52 rfl (lv_at hl 1 rfl) ?_
            refine lv_iload_n (pc := 53) hx hb dX0_letter_53 rfl (lv_at hl 2 rfl) ?_
            refine lv_iload (pc := 54) hx hb dX0_letter_54 (lv_at hl 0 rfl) ?_
            replace hf := bs hf; obtain ⟨r15, hk_16, hf⟩ := hf
            refine x_callV0 (pc := 56) (As := [.int x1, .int r11]) (rest := []) X V (mX0_nearerEnd l D dA s0 hk_16) okX0 ht10 q1364 q1366 qs35 q119 q1367 ⟨rfl, hsX0_nearerEnd⟩ ⟨Nat.le_of_ble_eq_true rfl, Nat.le_of_ble_eq_true rfl⟩ rfl hl.1 rfl (Nat.le_of_ble_eq_true rfl) dX0_letter_56 ⟨Nat.zero_le _, Nat.zero_le _⟩ (fun H locs V => W.eq (g2 := F0 m 59 ls [.int r15]) rfl ?_)
            refine lv_istore (pc := 59) (lv' := [(5, .int r15), (4, .int r11), (0, .ref x0), (1, .int x1), (2, .int x2), (3, .int x3)]) hx hb dX0_letter_59 hl (by decide) rfl (fun ls hl => ?_)
            refine lv_iload_n (pc := 61) hx hb dX0_letter_61 rfl (lv_at hl 5 rfl) ?_
            refine lv_iconst (pc := 62) (v := (-1 : Int32)) hx hb dX0_letter_62 (by decide) ?_
            refine lv_icmp_ne (pc := 63) (tgt := 74) hx hb dX0_letter_63 (by decide) (fun c17 => ?_) (fun c17 => ?_)
            · replace hf := if_f hf c17
              refine lv_iload_n (pc := 74) hx hb dX0_letter_74 rfl (lv_at hl 3 rfl) ?_
              refine lv_istore (pc := 75) (lv' := [(6, .int x1), (5, .int r15), (4, .int r11), (0, .ref x0), (1, .int x1), (2, .int x2), (3, .int x3)]) hx hb dX0_letter_75 hl (by decide) rfl (fun ls hl => ?_)
              refine lv_iconst (pc := 77) (v := (ii 0)) hx hb dX0_letter_77 (by decide) ?_
              refine lv_istore (pc := 78) (lv' := [(7, .int (ii 0)), (6, .int x1), (5, .int r15), (4, .int r11), (0, .ref x0), (1, .int x1), (2, .int x2), (3, .int x3)]) hx hb dX0_letter_78 hl (by decide) rfl (fun ls hl => ?_)
              exact wX0_letter_b80 X hr nf hf V (lv_sub hl [4, 7, 2, 1, 0] rfl)
            · replace hf := if_t hf c17
              refine lv_aload_n (pc := 66) hx hb dX0_letter_66 rfl (lv_at hl 2 rfl) ?_
              refine lv_iload_n (pc := 67) hx hb dX0_letter_67 rfl (lv_at hl 3 rfl) ?_
              refine lv_iload (pc := 68) hx hb dX0_letter_68 (lv_at hl 0 rfl) ?_
              replace hf := bs hf; obtain ⟨r18, hk_19, hf⟩ := hf
              refine x_callV0 (pc := 70) (As := [.int x1, .int r15]) (rest := []) X V (mX0_farOf l D dA s0 hk_19) okX0 ht10 q1294 q1296 qs29 q119 q1297 ⟨rfl, hsX0_farOf⟩ ⟨Nat.le_of_ble_eq_true rfl, Nat.le_of_ble_eq_true rfl⟩ rfl hl.1 rfl (Nat.le_of_ble_eq_true rfl) dX0_letter_70 ⟨Nat.zero_le _, Nat.zero_le _⟩ (fun H locs V => W.eq (g2 := F0 m 73 ls [.int r18]) rfl ?_)
              cases hf
              exact x_iret (pc := 73) X V hr dX0_letter_73
          · replace hf := if_t hf c14
            refine lv_iload (pc := 49) hx hb dX0_letter_49 (lv_at hl 0 rfl) ?_
            cases hf
            exact x_iret (pc := 51) X V hr dX0_letter_51
      · replace hf := if_f hf c7
        refine lv_iconst (pc := 23) (v := (-1 : Int32)) hx hb dX0_letter_23 (by decide) ?_
        cases hf
        exact x_iret (pc := 24) X V hr dX0_letter_24
theorem mX0_letter {nf : Nat} (l : Launch) (D : va_G) (dA : Nat → ClassId) (s0 : Nat) {T : xT} {N : xT} {Z : Nat} {I : xI} {L : xL} {R : xR} {x0 : Nat} {x1 : Int32} {x2 : Int32} {x3 : Int32} {ro : Int32} {Io : xI} (hf : fX0_letter nf T N I R x0 x1 x2 x3 = some (ro, Io)) : XMet l D dA s0 yX0_letter (ws_ yX0_letter cX0_letter 9 ((some .int))) (3) (72) [.ref x0, .int x1, .int x2, .int x3] T N Z I L R (some (.int ro)) T N Z Io L R 0 0 :=
  x_start (own := RX0) rfl (by decide) (Nat.le_of_ble_eq_true rfl) (lv := [(0, .ref x0), (1, .int x1), (2, .int x2), (3, .int x3)]) rfl (fun p e s m below meth c ls X hr hini V hl => wX0_letter_e X hr hf V hl)
