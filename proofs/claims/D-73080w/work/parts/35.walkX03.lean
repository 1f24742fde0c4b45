set_option maxHeartbeats 400000 in
set_option maxRecDepth 100000 in
theorem wX0_criesOut_e {nf : Nat} {p : Program} {l : Launch} {e : Env} {s : State} {m : MethodId} {args : Array Value} {below : List Frame} {meth : Method} {c : Code} {D : va_G} {dA : Nat → ClassId} {s0 : Nat} {T : xT} {N : xT} {Z : Nat} {I : xI} {L : xL} {R : xR} {H : Heap} {locs : List Loc} {ls : Array Slot} {x0 : Nat} {x1 : Nat} {x2 : Int32} {Io : xI} {Lo : xL} (X : Cx D dA s0 p m c cX0_criesOut 3 s args RX0 meth) (hr : meth.sig.returnType = none) (hf : fX0_criesOut nf T N I L R x0 x1 x2 = some (Io, Lo)) (V : Iv D dA s0 s T N Z I L R H locs) (hl : lv_has ls 3 [(0, .ref x0), (1, .ref x1), (2, .int x2)]) : W p l e { frames := 193, cells := 0, slots := 0, locals := 9405 } s m args below meth c H locs 0 0 (MQ below (xQ D dA s0 none T N Z Io Lo R) args s 0 0 (fun q => s0 ≤ q)) (F0 m 0 ls []) := by
  have hx := X.1.1
  have hb := X.1.2.1
  unfold fX0_criesOut at hf
  refine lv_aload_n (pc := 0) hx hb dX0_criesOut_0 rfl (lv_at hl 1 rfl) ?_
  replace hf := tg_s hf; obtain ⟨ht1, hf⟩ := hf
  replace hf := bs hf; obtain ⟨a2, ha2, hf⟩ := hf
  refine x_getN (pc := 1) X V okX2 ht1 2 (by decide) q180 (v := va_rf (R x1 2)) rfl dX0_criesOut_1 ?_
  refine x_topr ha2 ?_
  refine lv_aload_n (pc := 4) hx hb dX0_criesOut_4 rfl (lv_at hl 1 rfl) ?_
  replace hf := bs hf; obtain ⟨a3, ha3, hf⟩ := hf
  refine x_getN (pc := 5) X V okX2 ht1 1 (by decide) q178 (v := va_rf (R x1 1)) rfl dX0_criesOut_5 ?_
  refine x_topr ha3 ?_
  refine lv_iload_n (pc := 8) hx hb dX0_criesOut_8 rfl (lv_at hl 2 rfl) ?_
  replace hf := rA_s hf; obtain ⟨j4, hjj4, htj4, hij4, hf⟩ := hf
  refine x_iald (pc := 9) X V htj4 hij4 hjj4 dX0_criesOut_9 ?_
  refine lv_aload_n (pc := 10) hx hb dX0_criesOut_10 rfl (lv_at hl 0 rfl) ?_
  refine lv_aload_n (pc := 11) hx hb dX0_criesOut_11 rfl (lv_at hl 1 rfl) ?_
  refine lv_iload_n (pc := 12) hx hb dX0_criesOut_12 rfl (lv_at hl 2 rfl) ?_
  refine lv_aload_n (pc := 13) hx hb dX0_criesOut_13 rfl (lv_at hl 1 rfl) ?_
  refine x_getN (pc := 14) X V okX2 ht1 1 (by decide) q178 (v := va_rf (R x1 1)) rfl dX0_criesOut_14 ?_
  refine x_topr ha3 ?_
  refine lv_iload_n (pc := 17) hx hb dX0_criesOut_17 rfl (lv_at hl 2 rfl) ?_
  refine x_iald (pc := 18) X V htj4 hij4 hjj4 dX0_criesOut_18 ?_
  replace hf := tg_s hf; obtain ⟨ht8, hf⟩ := hf
  replace hf := b2s hf; obtain ⟨r5, L6, hk_7, hf⟩ := hf
  refine x_callV0 (pc := 19) (As := [.ref x1, .int x2, .int (I a3 j4)]) (rest := [.int (I a3 j4), .ref a2]) X V (mX0_says l D dA s0 hk_7) okX0 ht8 q695 q697 qs13 q119 q698 ⟨rfl, hsX0_says⟩ ⟨Nat.le_of_ble_eq_true rfl, Nat.le_of_ble_eq_true rfl⟩ rfl hl.1 rfl (Nat.le_of_ble_eq_true rfl) dX0_criesOut_19 ⟨Nat.zero_le _, Nat.zero_le _⟩ (fun H locs V => W.eq (g2 := F0 m 22 ls [.int r5, .int (I a3 j4), .ref a2]) rfl ?_)
  replace hf := rA_s hf; obtain ⟨j9, hjj9, htj9, hij9, hf⟩ := hf
  replace hf := nm_s hf; obtain ⟨I10, hI10, hf⟩ := hf
  refine x_iast (pc := 22) X V htj9 hij9 hjj9 hI10 dX0_criesOut_22 (fun H locs V => ?_)
  cases hf
  exact x_vret (pc := 23) X V hr dX0_criesOut_23
theorem mX0_criesOut {nf : Nat} (l : Launch) (D : va_G) (dA : Nat → ClassId) (s0 : Nat) {T : xT} {N : xT} {Z : Nat} {I : xI} {L : xL} {R : xR} {x0 : Nat} {x1 : Nat} {x2 : Int32} {Io : xI} {Lo : xL} (hf : fX0_criesOut nf T N I L R x0 x1 x2 = some (Io, Lo)) : XMet l D dA s0 yX0_criesOut (ws_ yX0_criesOut cX0_criesOut 3 (none)) (193) (9405) [.ref x0, .ref x1, .int x2] T N Z I L R none T N Z Io Lo R 0 0 :=
  x_start (own := RX0) rfl (by decide) (Nat.le_of_ble_eq_true rfl) (lv := [(0, .ref x0), (1, .ref x1), (2, .int x2)]) rfl (fun p e s m below meth c ls X hr hini V hl => wX0_criesOut_e X hr hf V hl)
set_option maxHeartbeats 400000 in
set_option maxRecDepth 100000 in
theorem wX0_criesKept_e {nf : Nat} {p : Program} {l : Launch} {e : Env} {s : State} {m : MethodId} {args : Array Value} {below : List Frame} {meth : Method} {c : Code} {D : va_G} {dA : Nat → ClassId} {s0 : Nat} {T : xT} {N : xT} {Z : Nat} {I : xI} {L : xL} {R : xR} {H : Heap} {locs : List Loc} {ls : Array Slot} {x0 : Nat} {x1 : Int32} {ro : Int32} {Io : xI} {Lo : xL} {Ro : xR} (X : Cx D dA s0 p m c cX0_criesKept 2 s args RX0 meth) (hr : meth.sig.returnType = (some .int)) (hf : fX0_criesKept nf T N I L R x0 x1 = some (ro, Io, Lo, Ro)) (V : Iv D dA s0 s T N Z I L R H locs) (hl : lv_has ls 2 [(0, .ref x0), (1, .int x1)]) : W p l e { frames := 194, cells := 0, slots := 0, locals := 9427 } s m args below meth c H locs 0 0 (MQ below (xQ D dA s0 (some (.int ro)) T N Z Io Lo Ro) args s 0 0 (fun q => s0 ≤ q)) (F0 m 0 ls []) := by
  have hx := X.1.1
  have hb := X.1.2.1
  unfold fX0_criesKept at hf
  refine lv_aload_n (pc := 0) hx hb dX0_criesKept_0 rfl (lv_at hl 0 rfl) ?_
  refine lv_iload_n (pc := 1) hx hb dX0_criesKept_1 rfl (lv_at hl 1 rfl) ?_
  replace hf := tg_s hf; obtain ⟨ht3, hf⟩ := hf
  replace hf := bs hf; obtain ⟨r1, hk_2, hf⟩ := hf
  refine x_callV0 (pc := 2) (As := [.int x1]) (rest := []) X V (mX0_isChild l D dA s0 hk_2) okX0 ht3 q588 q590 qs8 q119 q591 ⟨rfl, hsX0_isChild⟩ ⟨Nat.le_of_ble_eq_true rfl, Nat.le_of_ble_eq_true rfl⟩ rfl hl.1 rfl (Nat.le_of_ble_eq_true rfl) dX0_criesKept_2 ⟨Nat.zero_le _, Nat.zero_le _⟩ (fun H locs V => W.eq (g2 := F0 m 5 ls [.int r1]) rfl ?_)
  refine lv_if_ne (pc := 5) (tgt := 11) hx hb dX0_criesKept_5 (by decide) (fun c4 => ?_) (fun c4 => ?_)
  · replace hf := if_f hf c4
    refine lv_aload_n (pc := 11) hx hb dX0_criesKept_11 rfl (lv_at hl 0 rfl) ?_
    replace hf := bs hf; obtain ⟨r5, hk_6, hf⟩ := hf
    refine x_callV0 (pc := 12) (As := []) (rest := []) X V (mX0_table l D dA s0 hk_6) okX0 ht3 q568 q570 qs6 q119 q571 ⟨rfl, hsX0_table⟩ ⟨Nat.le_of_ble_eq_true rfl, Nat.le_of_ble_eq_true rfl⟩ rfl hl.1 rfl (Nat.le_of_ble_eq_true rfl) dX0_criesKept_12 ⟨Nat.zero_le _, Nat.zero_le _⟩ (fun H locs V => W.eq (g2 := F0 m 15 ls [.ref r5]) rfl ?_)
    replace hf := tg_s hf; obtain ⟨ht7, hf⟩ := hf
    replace hf := bs hf; obtain ⟨a8, ha8, hf⟩ := hf
    refine x_getN (pc := 15) X V okX2 ht7 1 (by decide) q178 (v := va_rf (R r5 1)) rfl dX0_criesKept_15 ?_
    refine x_topr ha8 ?_
    refine lv_iload_n (pc := 18) hx hb dX0_criesKept_18 rfl (lv_at hl 1 rfl) ?_
    replace hf := rA_s hf; obtain ⟨j9, hjj9, htj9, hij9, hf⟩ := hf
    refine x_iald (pc := 19) X V htj9 hij9 hjj9 dX0_criesKept_19 ?_
    refine lv_iconst (pc := 20) (v := (-1 : Int32)) hx hb dX0_criesKept_20 (by decide) ?_
    refine lv_icmp_ne (pc := 21) (tgt := 27) hx hb dX0_criesKept_21 (by decide) (fun c10 => ?_) (fun c10 => ?_)
    · replace hf := if_f hf c10
      refine lv_aload_n (pc := 27) hx hb dX0_criesKept_27 rfl (lv_at hl 0 rfl) ?_
      refine lv_iconst (pc := 28) (v := (ii 1)) hx hb dX0_criesKept_28 (by decide) ?_
      replace hf := b2s hf; obtain ⟨I11, R12, hk_13, hf⟩ := hf
      refine x_callV0 (pc := 29) (As := [.int (ii 1)]) (rest := []) X V (mX0_keeps l D dA s0 hk_13) okX0 ht3 q1223 q1225 qs20 q119 q1226 ⟨rfl, hsX0_keeps⟩ ⟨Nat.le_of_ble_eq_true rfl, Nat.le_of_ble_eq_true rfl⟩ rfl hl.1 rfl (Nat.le_of_ble_eq_true rfl) dX0_criesKept_29 ⟨Nat.zero_le _, Nat.zero_le _⟩ (fun H locs V => W.eq (g2 := F0 m 32 ls []) rfl ?_)
      refine lv_aload_n (pc := 32) hx hb dX0_criesKept_32 rfl (lv_at hl 0 rfl) ?_
      refine lv_aload_n (pc := 33) hx hb dX0_criesKept_33 rfl (lv_at hl 0 rfl) ?_
      replace hf := bs hf; obtain ⟨r14, hk_15, hf⟩ := hf
      refine x_callV0 (pc := 34) (As := []) (rest := [.ref x0]) X V (mX0_table l D dA s0 hk_15) okX0 ht3 q568 q570 qs6 q119 q571 ⟨rfl, hsX0_table⟩ ⟨Nat.le_of_ble_eq_true rfl, Nat.le_of_ble_eq_true rfl⟩ rfl hl.1 rfl (Nat.le_of_ble_eq_true rfl) dX0_criesKept_34 ⟨Nat.zero_le _, Nat.zero_le _⟩ (fun H locs V => W.eq (g2 := F0 m 37 ls [.ref r14, .ref x0]) rfl ?_)
      refine lv_iload_n (pc := 37) hx hb dX0_criesKept_37 rfl (lv_at hl 1 rfl) ?_
      replace hf := b2s hf; obtain ⟨I16, L17, hk_18, hf⟩ := hf
      refine x_callV0 (pc := 38) (As := [.ref r14, .int x1]) (rest := []) X V (mX0_criesOut l D dA s0 hk_18) okX0 ht3 q1248 q1250 qs24 q119 q1251 ⟨rfl, hsX0_criesOut⟩ ⟨Nat.le_of_ble_eq_true rfl, Nat.le_of_ble_eq_true rfl⟩ rfl hl.1 rfl (Nat.le_of_ble_eq_true rfl) dX0_criesKept_38 ⟨Nat.zero_le _, Nat.zero_le _⟩ (fun H locs V => W.eq (g2 := F0 m 41 ls []) rfl ?_)
      refine lv_aload_n (pc := 41) hx hb dX0_criesKept_41 rfl (lv_at hl 0 rfl) ?_
      replace hf := bs hf; obtain ⟨r19, hk_20, hf⟩ := hf
      refine x_callV0 (pc := 42) (As := []) (rest := []) X V (mX0_table l D dA s0 hk_20) okX0 ht3 q568 q570 qs6 q119 q571 ⟨rfl, hsX0_table⟩ ⟨Nat.le_of_ble_eq_true rfl, Nat.le_of_ble_eq_true rfl⟩ rfl hl.1 rfl (Nat.le_of_ble_eq_true rfl) dX0_criesKept_42 ⟨Nat.zero_le _, Nat.zero_le _⟩ (fun H locs V => W.eq (g2 := F0 m 45 ls [.ref r19]) rfl ?_)
      replace hf := tg_s hf; obtain ⟨ht21, hf⟩ := hf
      replace hf := bs hf; obtain ⟨a22, ha22, hf⟩ := hf
      refine x_getN (pc := 45) X V okX2 ht21 2 (by decide) q180 (v := va_rf (R12 r19 2)) rfl dX0_criesKept_45 ?_
      refine x_topr ha22 ?_
      refine lv_aload_n (pc := 48) hx hb dX0_criesKept_48 rfl (lv_at hl 0 rfl) ?_
      replace hf := bs hf; obtain ⟨r23, hk_24, hf⟩ := hf
      refine x_callV0 (pc := 49) (As := []) (rest := [.ref a22]) X V (mX0_table l D dA s0 hk_24) okX0 ht3 q568 q570 qs6 q119 q571 ⟨rfl, hsX0_table⟩ ⟨Nat.le_of_ble_eq_true rfl, Nat.le_of_ble_eq_true rfl⟩ rfl hl.1 rfl (Nat.le_of_ble_eq_true rfl) dX0_criesKept_49 ⟨Nat.zero_le _, Nat.zero_le _⟩ (fun H locs V => W.eq (g2 := F0 m 52 ls [.ref r23, .ref a22]) rfl ?_)
      replace hf := tg_s hf; obtain ⟨ht25, hf⟩ := hf
      replace hf := bs hf; obtain ⟨a26, ha26, hf⟩ := hf
      refine x_getN (pc := 52) X V okX2 ht25 1 (by decide) q178 (v := va_rf (R12 r23 1)) rfl dX0_criesKept_52 ?_
      refine x_topr ha26 ?_
      refine lv_iload_n (pc := 55) hx hb dX0_criesKept_55 rfl (lv_at hl 1 rfl) ?_
      replace hf := rA_s hf; obtain ⟨j27, hjj27, htj27, hij27, hf⟩ := hf
      refine x_iald (pc := 56) X V htj27 hij27 hjj27 dX0_criesKept_56 ?_
      replace hf := rA_s hf; obtain ⟨j28, hjj28, htj28, hij28, hf⟩ := hf
      refine x_iald (pc := 57) X V htj28 hij28 hjj28 dX0_criesKept_57 ?_
      cases hf
      exact x_iret (pc := 58) X V hr dX0_criesKept_58
    · replace hf := if_t hf c10
      refine lv_bipush (pc := 24) (v := (-3 : Int32)) hx hb dX0_criesKept_24 (by decide) ?_
      cases hf
      exact x_iret (pc := 26) X V hr dX0_criesKept_26
  · replace hf := if_t hf c4
    refine lv_bipush (pc := 8) (v := (-2 : Int32)) hx hb dX0_criesKept_8 (by decide) ?_
    cases hf
    exact x_iret (pc := 10) X V hr dX0_criesKept_10
theorem mX0_criesKept {nf : Nat} (l : Launch) (D : va_G) (dA : Nat → ClassId) (s0 : Nat) {T : xT} {N : xT} {Z : Nat} {I : xI} {L : xL} {R : xR} {x0 : Nat} {x1 : Int32} {ro : Int32} {Io : xI} {Lo : xL} {Ro : xR} (hf : fX0_criesKept nf T N I L R x0 x1 = some (ro, Io, Lo, Ro)) : XMet l D dA s0 yX0_criesKept (ws_ yX0_criesKept cX0_criesKept 2 ((some .int))) (194) (9427) [.ref x0, .int x1] T N Z I L R (some (.int ro)) T N Z Io Lo Ro 0 0 :=
  x_start (own := RX0) rfl (by decide) (Nat.le_of_ble_eq_true rfl) (lv := [(0, .ref x0), (1, .int x1)]) rfl (fun p e s m below meth c ls X hr hini V hl => wX0_criesKept_e X hr hf V hl)
set_option maxHeartbeats 400000 in
set_option maxRecDepth 100000 in
theorem wX0_cry_e {nf : Nat} {p : Program} {l : Launch} {e : Env} {s : State} {m : MethodId} {args : Array Value} {below : List Frame} {meth : Method} {c : Code} {D : va_G} {dA : Nat → ClassId} {s0 : Nat} {T : xT} {N : xT} {Z : Nat} {I : xI} {L : xL} {R : xR} {H : Heap} {locs : List Loc} {ls : Array Slot} {x0 : Nat} {x1 : Int32} {ro : Int32} {Io : xI} {Lo : xL} {Ro : xR} (X : Cx D dA s0 p m c cX0_cry 2 s args RX0 meth) (hr : meth.sig.returnType = (some .int)) (hf : fX0_cry nf T N I L R x0 x1 = some (ro, Io, Lo, Ro)) (V : Iv D dA s0 s T N Z I L R H locs) (hl : lv_has ls 2 [(0, .ref x0), (1, .int x1)]) : W p l e { frames := 195, cells := 0, slots := 0, locals := 9448 } s m args below meth c H locs 0 0 (MQ below (xQ D dA s0 (some (.int ro)) T N Z Io Lo Ro) args s 0 0 (fun q => s0 ≤ q)) (F0 m 0 ls []) := by
  have hx := X.1.1
  have hb := X.1.2.1
  unfold fX0_cry at hf
  refine lv_aload_n (pc := 0) hx hb dX0_cry_0 rfl (lv_at hl 0 rfl) ?_
  refine lv_aload_n (pc := 1) hx hb dX0_cry_1 rfl (lv_at hl 0 rfl) ?_
  refine lv_iload_n (pc := 2) hx hb dX0_cry_2 rfl (lv_at hl 1 rfl) ?_
  replace hf := tg_s hf; obtain ⟨ht6, hf⟩ := hf
  replace hf := b4s hf; obtain ⟨r1, I2, L3, R4, hk_5, hf⟩ := hf
  refine x_callV0 (pc := 3) (As := [.int x1]) (rest := [.ref x0]) X V (mX0_criesKept l D dA s0 hk_5) okX0 ht6 q1244 q1246 qs23 q119 q1247 ⟨rfl, hsX0_criesKept⟩ ⟨Nat.le_of_ble_eq_true rfl, Nat.le_of_ble_eq_true rfl⟩ rfl hl.1 rfl (Nat.le_of_ble_eq_true rfl) dX0_cry_3 ⟨Nat.zero_le _, Nat.zero_le _⟩ (fun H locs V => W.eq (g2 := F0 m 6 ls [.int r1, .ref x0]) rfl ?_)
  replace hf := b2s hf; obtain ⟨r7, I8, hk_9, hf⟩ := hf
  refine x_callV0 (pc := 6) (As := [.int r1]) (rest := []) X V (mX0_doneOr l D dA s0 hk_9) okX0 ht6 q1236 q1238 qs22 q119 q1239 ⟨rfl, hsX0_doneOr⟩ ⟨Nat.le_of_ble_eq_true rfl, Nat.le_of_ble_eq_true rfl⟩ rfl hl.1 rfl (Nat.le_of_ble_eq_true rfl) dX0_cry_6 ⟨Nat.zero_le _, Nat.zero_le _⟩ (fun H locs V => W.eq (g2 := F0 m 9 ls [.int r7]) rfl ?_)
  cases hf
  exact x_iret (pc := 9) X V hr dX0_cry_9
theorem mX0_cry {nf : Nat} (l : Launch) (D : va_G) (dA : Nat → ClassId) (s0 : Nat) {T : xT} {N : xT} {Z : Nat} {I : xI} {L : xL} {R : xR} {x0 : Nat} {x1 : Int32} {ro : Int32} {Io : xI} {Lo : xL} {Ro : xR} (hf : fX0_cry nf T N I L R x0 x1 = some (ro, Io, Lo, Ro)) : XMet l D dA s0 yX0_cry (ws_ yX0_cry cX0_cry 2 ((some .int))) (195) (9448) [.ref x0, .int x1] T N Z I L R (some (.int ro)) T N Z Io Lo Ro 0 0 :=
  x_start (own := RX0) rfl (by decide) (Nat.le_of_ble_eq_true rfl) (lv := [(0, .ref x0), (1, .int x1)]) rfl (fun p e s m below meth c ls X hr hini V hl => wX0_cry_e X hr hf V hl)
set_option maxHeartbeats 400000 in
set_option maxRecDepth 100000 in
theorem wX0_leadsKept_e {nf : Nat} {p : Program} {l : Launch} {e : Env} {s : State} {m : MethodId} {args : Array Value} {below : List Frame} {meth : Method} {c : Code} {D : va_G} {dA : Nat → ClassId} {s0 : Nat} {T : xT} {N : xT} {Z : Nat} {I : xI} {L : xL} {R : xR} {H : Heap} {locs : List Loc} {ls : Array Slot} {x0 : Nat} {x1 : Int32} {x2 : Int32} {ro : Int32} {Io : xI} {Ro : xR} (X : Cx D dA s0 p m c cX0_leadsKept 4 s args RX0 meth) (hr : meth.sig.returnType = (some .int)) (hf : fX0_leadsKept nf T N I R x0 x1 x2 = some (ro, Io, Ro)) (V : Iv D dA s0 s T N Z I L R H locs) (hl : lv_has ls 4 [(0, .ref x0), (1, .int x1), (2, .int x2)]) : W p l e { frames := 4, cells := 0, slots := 0, locals := 125 } s m args below meth c H locs 0 0 (MQ below (xQ D dA s0 (some (.int ro)) T N Z Io L Ro) args s 0 0 (fun q => s0 ≤ q)) (F0 m 0 ls []) := by
  have hx := X.1.1
  have hb := X.1.2.1
  unfold fX0_leadsKept at hf
  refine lv_iload_n (pc := 0) hx hb dX0_leadsKept_0 rfl (lv_at hl 2 rfl) ?_
  replace hf := bs hf; obtain ⟨r1, hk_2, hf⟩ := hf
  refine x_callS0 (pc := 1) (As := [.int x2]) (rest := []) X V (mX0_isCorner l D dA s0 hk_2) q561 q562 q119 q563 hsX0_isCorner ⟨Nat.le_of_ble_eq_true rfl, Nat.le_of_ble_eq_true rfl⟩ rfl hl.1 rfl (Nat.le_of_ble_eq_true rfl) dX0_leadsKept_1 ⟨Nat.zero_le _, Nat.zero_le _⟩ (fun H locs V => W.eq (g2 := F0 m 4 ls [.int r1]) rfl ?_)
  refine lv_if_ne (pc := 4) (tgt := 9) hx hb dX0_leadsKept_4 (by decide) (fun c3 => ?_) (fun c3 => ?_)
  · replace hf := if_f hf c3
    refine lv_aload_n (pc := 9) hx hb dX0_leadsKept_9 rfl (lv_at hl 0 rfl) ?_
    refine lv_iload_n (pc := 10) hx hb dX0_leadsKept_10 rfl (lv_at hl 1 rfl) ?_
    replace hf := tg_s hf; obtain ⟨ht6, hf⟩ := hf
    replace hf := bs hf; obtain ⟨r4, hk_5, hf⟩ := hf
    refine x_callV0 (pc := 11) (As := [.int x1]) (rest := []) X V (mX0_isChild l D dA s0 hk_5) okX0 ht6 q588 q590 qs8 q119 q591 ⟨rfl, hsX0_isChild⟩ ⟨Nat.le_of_ble_eq_true rfl, Nat.le_of_ble_eq_true rfl⟩ rfl hl.1 rfl (Nat.le_of_ble_eq_true rfl) dX0_leadsKept_11 ⟨Nat.zero_le _, Nat.zero_le _⟩ (fun H locs V => W.eq (g2 := F0 m 14 ls [.int r4]) rfl ?_)
    refine lv_if_ne (pc := 14) (tgt := 20) hx hb dX0_leadsKept_14 (by decide) (fun c7 => ?_) (fun c7 => ?_)
    · replace hf := if_f hf c7
      refine lv_aload_n (pc := 20) hx hb dX0_leadsKept_20 rfl (lv_at hl 0 rfl) ?_
      replace hf := bs hf; obtain ⟨r8, hk_9, hf⟩ := hf
      refine x_callV0 (pc := 21) (As := []) (rest := []) X V (mX0_table l D dA s0 hk_9) okX0 ht6 q568 q570 qs6 q119 q571 ⟨rfl, hsX0_table⟩ ⟨Nat.le_of_ble_eq_true rfl, Nat.le_of_ble_eq_true rfl⟩ rfl hl.1 rfl (Nat.le_of_ble_eq_true rfl) dX0_leadsKept_21 ⟨Nat.zero_le _, Nat.zero_le _⟩ (fun H locs V => W.eq (g2 := F0 m 24 ls [.ref r8]) rfl ?_)
      replace hf := tg_s hf; obtain ⟨ht10, hf⟩ := hf
      replace hf := bs hf; obtain ⟨a11, ha11, hf⟩ := hf
      refine x_getN (pc := 24) X V okX2 ht10 0 (by decide) q176 (v := va_rf (R r8 0)) rfl dX0_leadsKept_24 ?_
      refine x_topr ha11 ?_
      refine lv_iload_n (pc := 27) hx hb dX0_leadsKept_27 rfl (lv_at hl 1 rfl) ?_
      replace hf := rA_s hf; obtain ⟨j12, hjj12, htj12, hij12, hf⟩ := hf
      refine x_iald (pc := 28) X V htj12 hij12 hjj12 dX0_leadsKept_28 ?_
      replace hf := nm_s hf; obtain ⟨u13, hu13, hf⟩ := hf
      refine x_topi hu13 ?_
      refine lv_istore_n (pc := 29) (lv' := [(3, .int u13), (0, .ref x0), (1, .int x1), (2, .int x2)]) hx hb dX0_leadsKept_29 rfl hl (by decide) rfl (fun ls hl => ?_)
      refine lv_iload_n (pc := 30) hx hb dX0_leadsKept_30 rfl (lv_at hl 0 rfl) ?_
      refine lv_iload_n (pc := 31) hx hb dX0_leadsKept_31 rfl (lv_at hl 3 rfl) ?_
      refine lv_icmp_ne (pc := 32) (tgt := 38) hx hb dX0_leadsKept_32 (by decide) (fun c14 => ?_) (fun c14 => ?_)
      · replace hf := if_f hf c14
        refine lv_aload_n (pc := 38) hx hb dX0_leadsKept_38 rfl (lv_at hl 1 rfl) ?_
        refine lv_iconst (pc := 39) (v := (ii 2)) hx hb dX0_leadsKept_39 (by decide) ?_
        replace hf := b2s hf; obtain ⟨I15, R16, hk_17, hf⟩ := hf
        refine x_callV0 (pc := 40) (As := [.int (ii 2)]) (rest := []) X V (mX0_keeps l D dA s0 hk_17) okX0 ht6 q1223 q1225 qs20 q119 q1226 ⟨rfl, hsX0_keeps⟩ ⟨Nat.le_of_ble_eq_true rfl, Nat.le_of_ble_eq_true rfl⟩ rfl hl.1 rfl (Nat.le_of_ble_eq_true rfl) dX0_leadsKept_40 ⟨Nat.zero_le _, Nat.zero_le _⟩ (fun H locs V => W.eq (g2 := F0 m 43 ls []) rfl ?_)
        refine lv_aload_n (pc := 43) hx hb dX0_leadsKept_43 rfl (lv_at hl 1 rfl) ?_
        replace hf := bs hf; obtain ⟨r18, hk_19, hf⟩ := hf
        refine x_callV0 (pc := 44) (As := []) (rest := []) X V (mX0_table l D dA s0 hk_19) okX0 ht6 q568 q570 qs6 q119 q571 ⟨rfl, hsX0_table⟩ ⟨Nat.le_of_ble_eq_true rfl, Nat.le_of_ble_eq_true rfl⟩ rfl hl.1 rfl (Nat.le_of_ble_eq_true rfl) dX0_leadsKept_44 ⟨Nat.zero_le _, Nat.zero_le _⟩ (fun H locs V => W.eq (g2 := F0 m 47 ls [.ref r18]) rfl ?_)
        replace hf := tg_s hf; obtain ⟨ht20, hf⟩ := hf
        replace hf := bs hf; obtain ⟨a21, ha21, hf⟩ := hf
        refine x_getN (pc := 47) X V okX2 ht20 0 (by decide) q176 (v := va_rf (R16 r18 0)) rfl dX0_leadsKept_47 ?_
        refine x_topr ha21 ?_
        refine lv_iload_n (pc := 50) hx hb dX0_leadsKept_50 rfl (lv_at hl 2 rfl) ?_
        refine lv_iload_n (pc := 51) hx hb dX0_leadsKept_51 rfl (lv_at hl 3 rfl) ?_
        replace hf := rA_s hf; obtain ⟨j22, hjj22, htj22, hij22, hf⟩ := hf
        replace hf := nm_s hf; obtain ⟨I23, hI23, hf⟩ := hf
        refine x_iast (pc := 52) X V htj22 hij22 hjj22 hI23 dX0_leadsKept_52 (fun H locs V => ?_)
        refine lv_iload_n (pc := 53) hx hb dX0_leadsKept_53 rfl (lv_at hl 0 rfl) ?_
        cases hf
        exact x_iret (pc := 54) X V hr dX0_leadsKept_54
      · replace hf := if_t hf c14
        refine lv_bipush (pc := 35) (v := (-3 : Int32)) hx hb dX0_leadsKept_35 (by decide) ?_
        cases hf
        exact x_iret (pc := 37) X V hr dX0_leadsKept_37
    · replace hf := if_t hf c7
      refine lv_bipush (pc := 17) (v := (-2 : Int32)) hx hb dX0_leadsKept_17 (by decide) ?_
      cases hf
      exact x_iret (pc := 19) X V hr dX0_leadsKept_19
  · replace hf := if_t hf c3
    refine lv_iconst (pc := 7) (v := (-1 : Int32)) hx hb dX0_leadsKept_7 (by decide) ?_
    cases hf
    exact x_iret (pc := 8) X V hr dX0_leadsKept_8
theorem mX0_leadsKept {nf : Nat} (l : Launch) (D : va_G) (dA : Nat → ClassId) (s0 : Nat) {T : xT} {N : xT} {Z : Nat} {I : xI} {L : xL} {R : xR} {x0 : Nat} {x1 : Int32} {x2 : Int32} {ro : Int32} {Io : xI} {Ro : xR} (hf : fX0_leadsKept nf T N I R x0 x1 x2 = some (ro, Io, Ro)) : XMet l D dA s0 yX0_leadsKept (ws_ yX0_leadsKept cX0_leadsKept 4 ((some .int))) (4) (125) [.ref x0, .int x1, .int x2] T N Z I L R (some (.int ro)) T N Z Io L Ro 0 0 :=
  x_start (own := RX0) rfl (by decide) (Nat.le_of_ble_eq_true rfl) (lv := [(0, .ref x0), (1, .int x1), (2, .int x2)]) rfl (fun p e s m below meth c ls X hr hini V hl => wX0_leadsKept_e X hr hf V hl)
set_option maxHeartbeats 400000 in
set_option maxRecDepth 100000 in
theorem wX0_lead_e {nf : Nat} {p : Program} {l : Launch} {e : Env} {s : State} {m : MethodId} {args : Array Value} {below : List Frame} {meth : Method} {c : Code} {D : va_G} {dA : Nat → ClassId} {s0 : Nat} {T : xT} {N : xT} {Z : Nat} {I : xI} {L : xL} {R : xR} {H : Heap} {locs : List Loc} {ls : Array Slot} {x0 : Nat} {x1 : Int32} {x2 : Int32} {ro : Int32} {Io : xI} {Ro : xR} (X : Cx D dA s0 p m c cX0_lead 3 s args RX0 meth) (hr : meth.sig.returnType = (some .int)) (hf : fX0_lead nf T N I R x0 x1 x2 = some (ro, Io, Ro)) (V : Iv D dA s0 s T N Z I L R H locs) (hl : lv_has ls 3 [(0, .ref x0), (1, .int x1), (2, .int x2)]) : W p l e { frames := 5, cells := 0, slots := 0, locals := 148 } s m args below meth c H locs 0 0 (MQ below (xQ D dA s0 (some (.int ro)) T N Z Io L Ro) args s 0 0 (fun q => s0 ≤ q)) (F0 m 0 ls []) := by
  have hx := X.1.1
  have hb := X.1.2.1
  unfold fX0_lead at hf
  refine lv_aload_n (pc := 0) hx hb dX0_lead_0 rfl (lv_at hl 0 rfl) ?_
  refine lv_aload_n (pc := 1) hx hb dX0_lead_1 rfl (lv_at hl 0 rfl) ?_
  refine lv_iload_n (pc := 2) hx hb dX0_lead_2 rfl (lv_at hl 1 rfl) ?_
  refine lv_iload_n (pc := 3) hx hb dX0_lead_3 rfl (lv_at hl 2 rfl) ?_
  replace hf := tg_s hf; obtain ⟨ht5, hf⟩ := hf
  replace hf := b3s hf; obtain ⟨r1, I2, R3, hk_4, hf⟩ := hf
  refine x_callV0 (pc := 4) (As := [.int x1, .int x2]) (rest := [.ref x0]) X V (mX0_leadsKept l D dA s0 hk_4) okX0 ht5 q1256 q1258 qs25 q119 q1259 ⟨rfl, hsX0_leadsKept⟩ ⟨Nat.le_of_ble_eq_true rfl, Nat.le_of_ble_eq_true rfl⟩ rfl hl.1 rfl (Nat.le_of_ble_eq_true rfl) dX0_lead_4 ⟨Nat.zero_le _, Nat.zero_le _⟩ (fun H locs V => W.eq (g2 := F0 m 7 ls [.int r1, .ref x0]) rfl ?_)
  replace hf := b2s hf; obtain ⟨r6, I7, hk_8, hf⟩ := hf
  refine x_callV0 (pc := 7) (As := [.int r1]) (rest := []) X V (mX0_doneOr l D dA s0 hk_8) okX0 ht5 q1236 q1238 qs22 q119 q1239 ⟨rfl, hsX0_doneOr⟩ ⟨Nat.le_of_ble_eq_true rfl, Nat.le_of_ble_eq_true rfl⟩ rfl hl.1 rfl (Nat.le_of_ble_eq_true rfl) dX0_lead_7 ⟨Nat.zero_le _, Nat.zero_le _⟩ (fun H locs V => W.eq (g2 := F0 m 10 ls [.int r6]) rfl ?_)
  cases hf
  exact x_iret (pc := 10) X V hr dX0_lead_10
theorem mX0_lead {nf : Nat} (l : Launch) (D : va_G) (dA : Nat → ClassId) (s0 : Nat) {T : xT} {N : xT} {Z : Nat} {I : xI} {L : xL} {R : xR} {x0 : Nat} {x1 : Int32} {x2 : Int32} {ro : Int32} {Io : xI} {Ro : xR} (hf : fX0_lead nf T N I R x0 x1 x2 = some (ro, Io, Ro)) : XMet l D dA s0 yX0_lead (ws_ yX0_lead cX0_lead 3 ((some .int))) (5) (148) [.ref x0, .int x1, .int x2] T N Z I L R (some (.int ro)) T N Z Io L Ro 0 0 :=
  x_start (own := RX0) rfl (by decide) (Nat.le_of_ble_eq_true rfl) (lv := [(0, .ref x0), (1, .int x1), (2, .int x2)]) rfl (fun p e s m below meth c ls X hr hini V hl => wX0_lead_e X hr hf V hl)
set_option maxHeartbeats 400000 in
set_option maxRecDepth 100000 in
theorem wX0_passes_b35 {nf : Nat} {p : Program} {l : Launch} {e : Env} {s : State} {m : MethodId} {args : Array Value} {below : List Frame} {meth : Method} {c : Code} {D : va_G} {dA : Nat → ClassId} {s0 : Nat} {T : xT} {N : xT} {Z : Nat} {R : xR}  {ro : Int32} {Io : xI} {Lo : xL} (X : Cx D dA s0 p m c cX0_passes 4 s args RX0 meth) (hr : meth.sig.returnType = (some .int))   (k : Nat) : ∀ {I : xI} {L : xL} {x0 : Nat} {x1 : Nat} {x2 : Int32} {x3 : Int32} {H : Heap} {locs : List Loc} {ls : Array Slot} , fX0_passes_b35 nf T N R k I L x0 x1 x2 x3 = some (ro, Io, Lo) → Iv D dA s0 s T N Z I L R H locs → lv_has ls 4 [(0, .ref x0), (1, .ref x1), (2, .int x2), (3, .int x3)] → W p l e { frames := 194, cells := 0, slots := 0, locals := 9429 } s m args below meth c H locs 0 0 (MQ below (xQ D dA s0 (some (.int ro)) T N Z Io Lo R) args s 0 0 (fun q => s0 ≤ q)) (F0 m 35 ls []) := by
  have hx := X.1.1
  have hb := X.1.2.1
  induction k with
  | zero =>
    intro I L x0 x1 x2 x3 H locs ls hf V hl
    exact absurd (show none = some _ from hf) (fun q => nomatch q)
  | succ k ih =>
    intro I L x0 x1 x2 x3 H locs ls hf V hl
    rw [fX0_passes_b35] at hf
    refine lv_iload_n (pc := 35) hx hb dX0_passes_35 rfl (lv_at hl 3 rfl) ?_
    refine lv_aload_n (pc := 36) hx hb dX0_passes_36 rfl (lv_at hl 0 rfl) ?_
    replace hf := tg_s hf; obtain ⟨ht1, hf⟩ := hf
    replace hf := bs hf; obtain ⟨a2, ha2, hf⟩ := hf
    refine x_get (pc := 37) X V okX0 ht1 2 (by decide) q362 (v := va_rf (R x0 2)) rfl dX0_passes_37 ?_
    refine x_topr ha2 ?_
    replace hf := tg_s hf; obtain ⟨ht3, hf⟩ := hf
    refine x_getN (pc := 40) X V okX1 ht3 9 (by decide) q240 (v := .int (I a2 9)) rfl dX0_passes_40 ?_
    refine lv_icmp_ge (pc := 43) (tgt := 80) hx hb dX0_passes_43 (by decide) (fun c4 => ?_) (fun c4 => ?_)
    · replace hf := if_t hf c4
      refine lv_aload_n (pc := 80) hx hb dX0_passes_80 rfl (lv_at hl 1 rfl) ?_
      refine lv_dup (pc := 81) hx hb dX0_passes_81 rfl ?_
      replace hf := tg_s hf; obtain ⟨ht5, hf⟩ := hf
      refine x_getN (pc := 82) X V okX2 ht5 3 (by decide) q182 (v := .int (I x1 3)) rfl dX0_passes_82 ?_
      refine lv_iconst (pc := 85) (v := (ii 1)) hx hb dX0_passes_85 (by decide) ?_
      refine lv_iadd (pc := 86) hx hb dX0_passes_86 ?_
      replace hf := nm_s hf; obtain ⟨I6, hI6, hf⟩ := hf
      refine x_putNi (pc := 87) X V okX2 (by decide) ht5 3 (by decide) q182 rfl hI6 (fun _ _ _ => rfl) rfl rfl dX0_passes_87 (fun H locs V => ?_)
      refine lv_iload_n (pc := 90) hx hb dX0_passes_90 rfl (lv_at hl 2 rfl) ?_
      cases hf
      exact x_iret (pc := 91) X V hr dX0_passes_91
    · replace hf := if_f hf c4
      refine lv_aload_n (pc := 46) hx hb dX0_passes_46 rfl (lv_at hl 0 rfl) ?_
      replace hf := bs hf; obtain ⟨a7, ha7, hf⟩ := hf
      refine x_get (pc := 47) X V okX0 ht1 18 (by decide) q378 (v := va_rf (R x0 18)) rfl dX0_passes_47 ?_
      refine x_topr ha7 ?_
      refine lv_iload_n (pc := 50) hx hb dX0_passes_50 rfl (lv_at hl 3 rfl) ?_
      replace hf := rA_s hf; obtain ⟨j8, hjj8, htj8, hij8, hf⟩ := hf
      refine x_iald (pc := 51) X V htj8 hij8 hjj8 dX0_passes_51 ?_
      refine lv_iconst (pc := 52) (v := (-1 : Int32)) hx hb dX0_passes_52 (by decide) ?_
      refine lv_icmp_ne (pc := 53) (tgt := 59) hx hb dX0_passes_53 (by decide) (fun c9 => ?_) (fun c9 => ?_)
      · replace hf := if_f hf c9
        refine lv_aload_n (pc := 59) hx hb dX0_passes_59 rfl (lv_at hl 0 rfl) ?_
        refine lv_aload_n (pc := 60) hx hb dX0_passes_60 rfl (lv_at hl 1 rfl) ?_
        refine lv_iload_n (pc := 61) hx hb dX0_passes_61 rfl (lv_at hl 3 rfl) ?_
        refine lv_aload_n (pc := 62) hx hb dX0_passes_62 rfl (lv_at hl 0 rfl) ?_
        refine x_get (pc := 63) X V okX0 ht1 18 (by decide) q378 (v := va_rf (R x0 18)) rfl dX0_passes_63 ?_
        refine x_topr ha7 ?_
        refine lv_iload_n (pc := 66) hx hb dX0_passes_66 rfl (lv_at hl 3 rfl) ?_
        refine x_iald (pc := 67) X V htj8 hij8 hjj8 dX0_passes_67 ?_
        replace hf := bs hf; obtain ⟨I10, hk_11, hf⟩ := hf
        refine x_callV0 (pc := 68) (As := [.ref x1, .int x3, .int (I a7 j8)]) (rest := []) X V (mX0_goes l D dA s0 hk_11) okX0 ht1 q1228 q1230 qs21 q119 q1231 ⟨rfl, hsX0_goes⟩ ⟨Nat.le_of_ble_eq_true rfl, Nat.le_of_ble_eq_true rfl⟩ rfl hl.1 rfl (Nat.le_of_ble_eq_true rfl) dX0_passes_68 ⟨Nat.zero_le _, Nat.zero_le _⟩ (fun H locs V => W.eq (g2 := F0 m 71 ls []) rfl ?_)
        replace hf := nm_s hf; obtain ⟨u12, hu12, hf⟩ := hf
        refine lv_iinc (pc := 71) (v := u12) (lv' := [(2, .int u12), (0, .ref x0), (1, .ref x1), (3, .int x3)]) hx hb dX0_passes_71 hl (k := 2) rfl (by rw [hu12]; rfl) (by decide) rfl (fun ls hl => ?_)
        replace hf := nm_s hf; obtain ⟨u13, hu13, hf⟩ := hf
        refine lv_iinc (pc := 74) (v := u13) (lv' := [(3, .int u13), (2, .int u12), (0, .ref x0), (1, .ref x1)]) hx hb dX0_passes_74 hl (k := 3) rfl (by rw [hu13]; rfl) (by decide) rfl (fun ls hl => ?_)
        refine lv_goto (pc := 77) (tgt := 35) hx hb dX0_passes_77 (by decide) ?_
        exact ih hf V (lv_sub hl [2, 3, 1, 0] rfl)
      · replace hf := if_t hf c9
        refine lv_goto (pc := 56) (tgt := 74) hx hb dX0_passes_56 (by decide) ?_
        replace hf := nm_s hf; obtain ⟨u14, hu14, hf⟩ := hf
        refine lv_iinc (pc := 74) (v := u14) (lv' := [(3, .int u14), (0, .ref x0), (1, .ref x1), (2, .int x2)]) hx hb dX0_passes_74 hl (k := 3) rfl (by rw [hu14]; rfl) (by decide) rfl (fun ls hl => ?_)
        refine lv_goto (pc := 77) (tgt := 35) hx hb dX0_passes_77 (by decide) ?_
        exact ih hf V (lv_sub hl [1, 2, 3, 0] rfl)
set_option maxHeartbeats 400000 in
set_option maxRecDepth 100000 in
theorem wX0_passes_b4 {nf : Nat} {p : Program} {l : Launch} {e : Env} {s : State} {m : MethodId} {args : Array Value} {below : List Frame} {meth : Method} {c : Code} {D : va_G} {dA : Nat → ClassId} {s0 : Nat} {T : xT} {N : xT} {Z : Nat} {R : xR}  {ro : Int32} {Io : xI} {Lo : xL} (X : Cx D dA s0 p m c cX0_passes 4 s args RX0 meth) (hr : meth.sig.returnType = (some .int))   (k : Nat) : ∀ {I : xI} {L : xL} {x0 : Nat} {x1 : Nat} {x2 : Int32} {x3 : Int32} {H : Heap} {locs : List Loc} {ls : Array Slot} , fX0_passes_b4 nf T N R k I L x0 x1 x2 x3 = some (ro, Io, Lo) → Iv D dA s0 s T N Z I L R H locs → lv_has ls 4 [(0, .ref x0), (1, .ref x1), (2, .int x2), (3, .int x3)] → W p l e { frames := 194, cells := 0, slots := 0, locals := 9429 } s m args below meth c H locs 0 0 (MQ below (xQ D dA s0 (some (.int ro)) T N Z Io Lo R) args s 0 0 (fun q => s0 ≤ q)) (F0 m 4 ls []) := by
  have hx := X.1.1
  have hb := X.1.2.1
  induction k with
  | zero =>
    intro I L x0 x1 x2 x3 H locs ls hf V hl
    exact absurd (show none = some _ from hf) (fun q => nomatch q)
  | succ k ih =>
    intro I L x0 x1 x2 x3 H locs ls hf V hl
    rw [fX0_passes_b4] at hf
    refine lv_iload_n (pc := 4) hx hb dX0_passes_4 rfl (lv_at hl 3 rfl) ?_
    refine lv_aload_n (pc := 5) hx hb dX0_passes_5 rfl (lv_at hl 0 rfl) ?_
    replace hf := tg_s hf; obtain ⟨ht1, hf⟩ := hf
    replace hf := bs hf; obtain ⟨a2, ha2, hf⟩ := hf
    refine x_get (pc := 6) X V okX0 ht1 2 (by decide) q362 (v := va_rf (R x0 2)) rfl dX0_passes_6 ?_
    refine x_topr ha2 ?_
    replace hf := tg_s hf; obtain ⟨ht3, hf⟩ := hf
    refine x_getN (pc := 9) X V okX1 ht3 9 (by decide) q240 (v := .int (I a2 9)) rfl dX0_passes_9 ?_
    refine lv_icmp_ge (pc := 12) (tgt := 33) hx hb dX0_passes_12 (by decide) (fun c4 => ?_) (fun c4 => ?_)
    · replace hf := if_t hf c4
      refine lv_iconst (pc := 33) (v := (ii 0)) hx hb dX0_passes_33 (by decide) ?_
      refine lv_istore_n (pc := 34) (lv' := [(3, .int (ii 0)), (0, .ref x0), (1, .ref x1), (2, .int x2)]) hx hb dX0_passes_34 rfl hl (by decide) rfl (fun ls hl => ?_)
      exact wX0_passes_b35 X hr nf hf V (lv_sub hl [1, 2, 3, 0] rfl)
    · replace hf := if_f hf c4
      refine lv_aload_n (pc := 15) hx hb dX0_passes_15 rfl (lv_at hl 0 rfl) ?_
      replace hf := bs hf; obtain ⟨a5, ha5, hf⟩ := hf
      refine x_get (pc := 16) X V okX0 ht1 18 (by decide) q378 (v := va_rf (R x0 18)) rfl dX0_passes_16 ?_
      refine x_topr ha5 ?_
      refine lv_iload_n (pc := 19) hx hb dX0_passes_19 rfl (lv_at hl 3 rfl) ?_
      refine lv_aload_n (pc := 20) hx hb dX0_passes_20 rfl (lv_at hl 0 rfl) ?_
      refine lv_aload_n (pc := 21) hx hb dX0_passes_21 rfl (lv_at hl 1 rfl) ?_
      refine lv_iload_n (pc := 22) hx hb dX0_passes_22 rfl (lv_at hl 3 rfl) ?_
      replace hf := b3s hf; obtain ⟨r6, I7, L8, hk_9, hf⟩ := hf
      refine x_callV0 (pc := 23) (As := [.ref x1, .int x3]) (rest := [.int x3, .ref a5]) X V (mX0_laneNext l D dA s0 hk_9) okX0 ht1 q679 q681 qs11 q119 q682 ⟨rfl, hsX0_laneNext⟩ ⟨Nat.le_of_ble_eq_true rfl, Nat.le_of_ble_eq_true rfl⟩ rfl hl.1 rfl (Nat.le_of_ble_eq_true rfl) dX0_passes_23 ⟨Nat.zero_le _, Nat.zero_le _⟩ (fun H locs V => W.eq (g2 := F0 m 26 ls [.int r6, .int x3, .ref a5]) rfl ?_)
      replace hf := rA_s hf; obtain ⟨j10, hjj10, htj10, hij10, hf⟩ := hf
      replace hf := nm_s hf; obtain ⟨I11, hI11, hf⟩ := hf
      refine x_iast (pc := 26) X V htj10 hij10 hjj10 hI11 dX0_passes_26 (fun H locs V => ?_)
      replace hf := nm_s hf; obtain ⟨u12, hu12, hf⟩ := hf
      refine lv_iinc (pc := 27) (v := u12) (lv' := [(3, .int u12), (0, .ref x0), (1, .ref x1), (2, .int x2)]) hx hb dX0_passes_27 hl (k := 3) rfl (by rw [hu12]; rfl) (by decide) rfl (fun ls hl => ?_)
      refine lv_goto (pc := 30) (tgt := 4) hx hb dX0_passes_30 (by decide) ?_
      exact ih hf V (lv_sub hl [1, 2, 3, 0] rfl)
set_option maxHeartbeats 400000 in
set_option maxRecDepth 100000 in
theorem wX0_passes_e {nf : Nat} {p : Program} {l : Launch} {e : Env} {s : State} {m : MethodId} {args : Array Value} {below : List Frame} {meth : Method} {c : Code} {D : va_G} {dA : Nat → ClassId} {s0 : Nat} {T : xT} {N : xT} {Z : Nat} {I : xI} {L : xL} {R : xR} {H : Heap} {locs : List Loc} {ls : Array Slot} {x0 : Nat} {x1 : Nat} {ro : Int32} {Io : xI} {Lo : xL} (X : Cx D dA s0 p m c cX0_passes 4 s args RX0 meth) (hr : meth.sig.returnType = (some .int)) (hf : fX0_passes nf T N I L R x0 x1 = some (ro, Io, Lo)) (V : Iv D dA s0 s T N Z I L R H locs) (hl : lv_has ls 4 [(0, .ref x0), (1, .ref x1)]) : W p l e { frames := 194, cells := 0, slots := 0, locals := 9429 } s m args below meth c H locs 0 0 (MQ below (xQ D dA s0 (some (.int ro)) T N Z Io Lo R) args s 0 0 (fun q => s0 ≤ q)) (F0 m 0 ls []) := by
  have hx := X.1.1
  have hb := X.1.2.1
  unfold fX0_passes at hf
  refine lv_iconst (pc := 0) (v := (ii 0)) hx hb dX0_passes_0 (by decide) ?_
  refine lv_istore_n (pc := 1) (lv' := [(2, .int (ii 0)), (0, .ref x0), (1, .ref x1)]) hx hb dX0_passes_1 rfl hl (by decide) rfl (fun ls hl => ?_)
  refine lv_iconst (pc := 2) (v := (ii 0)) hx hb dX0_passes_2 (by decide) ?_
  refine lv_istore_n (pc := 3) (lv' := [(3, .int (ii 0)), (2, .int (ii 0)), (0, .ref x0), (1, .ref x1)]) hx hb dX0_passes_3 rfl hl (by decide) rfl (fun ls hl => ?_)
  exact wX0_passes_b4 X hr nf hf V (lv_sub hl [2, 3, 1, 0] rfl)
theorem mX0_passes {nf : Nat} (l : Launch) (D : va_G) (dA : Nat → ClassId) (s0 : Nat) {T : xT} {N : xT} {Z : Nat} {I : xI} {L : xL} {R : xR} {x0 : Nat} {x1 : Nat} {ro : Int32} {Io : xI} {Lo : xL} (hf : fX0_passes nf T N I L R x0 x1 = some (ro, Io, Lo)) : XMet l D dA s0 yX0_passes (ws_ yX0_passes cX0_passes 4 ((some .int))) (194) (9429) [.ref x0, .ref x1] T N Z I L R (some (.int ro)) T N Z Io Lo R 0 0 :=
  x_start (own := RX0) rfl (by decide) (Nat.le_of_ble_eq_true rfl) (lv := [(0, .ref x0), (1, .ref x1)]) rfl (fun p e s m below meth c ls X hr hini V hl => wX0_passes_e X hr hf V hl)
set_option maxHeartbeats 400000 in
set_option maxRecDepth 100000 in
theorem wX0_passesKept_e {nf : Nat} {p : Program} {l : Launch} {e : Env} {s : State} {m : MethodId} {args : Array Value} {below : List Frame} {meth : Method} {c : Code} {D : va_G} {dA : Nat → ClassId} {s0 : Nat} {T : xT} {N : xT} {Z : Nat} {I : xI} {L : xL} {R : xR} {H : Heap} {locs : List Loc} {ls : Array Slot} {x0 : Nat} {ro : Int32} {Io : xI} {Lo : xL} {Ro : xR} (X : Cx D dA s0 p m c cX0_passesKept 1 s args RX0 meth) (hr : meth.sig.returnType = (some .int)) (hf : fX0_passesKept nf T N I L R x0 = some (ro, Io, Lo, Ro)) (V : Iv D dA s0 s T N Z I L R H locs) (hl : lv_has ls 1 [(0, .ref x0)]) : W p l e { frames := 195, cells := 0, slots := 0, locals := 9452 } s m args below meth c H locs 0 0 (MQ below (xQ D dA s0 (some (.int ro)) T N Z Io Lo Ro) args s 0 0 (fun q => s0 ≤ q)) (F0 m 0 ls []) := by
  have hx := X.1.1
  have hb := X.1.2.1
  unfold fX0_passesKept at hf
  refine lv_aload_n (pc := 0) hx hb dX0_passesKept_0 rfl (lv_at hl 0 rfl) ?_
  replace hf := tg_s hf; obtain ⟨ht3, hf⟩ := hf
  replace hf := bs hf; obtain ⟨r1, hk_2, hf⟩ := hf
  refine x_callV0 (pc := 1) (As := []) (rest := []) X V (mX0_table l D dA s0 hk_2) okX0 ht3 q568 q570 qs6 q119 q571 ⟨rfl, hsX0_table⟩ ⟨Nat.le_of_ble_eq_true rfl, Nat.le_of_ble_eq_true rfl⟩ rfl hl.1 rfl (Nat.le_of_ble_eq_true rfl) dX0_passesKept_1 ⟨Nat.zero_le _, Nat.zero_le _⟩ (fun H locs V => W.eq (g2 := F0 m 4 ls [.ref r1]) rfl ?_)
  replace hf := tg_s hf; obtain ⟨ht4, hf⟩ := hf
  refine x_getN (pc := 4) X V okX2 ht4 3 (by decide) q182 (v := .int (I r1 3)) rfl dX0_passesKept_4 ?_
  refine lv_sipush (pc := 7) (v := (ii 999)) hx hb dX0_passesKept_7 (by decide) ?_
  refine lv_icmp_ne (pc := 10) (tgt := 16) hx hb dX0_passesKept_10 (by decide) (fun c5 => ?_) (fun c5 => ?_)
  · replace hf := if_f hf c5
    refine lv_aload_n (pc := 16) hx hb dX0_passesKept_16 rfl (lv_at hl 0 rfl) ?_
    refine lv_iconst (pc := 17) (v := (ii 3)) hx hb dX0_passesKept_17 (by decide) ?_
    replace hf := b2s hf; obtain ⟨I6, R7, hk_8, hf⟩ := hf
    refine x_callV0 (pc := 18) (As := [.int (ii 3)]) (rest := []) X V (mX0_keeps l D dA s0 hk_8) okX0 ht3 q1223 q1225 qs20 q119 q1226 ⟨rfl, hsX0_keeps⟩ ⟨Nat.le_of_ble_eq_true rfl, Nat.le_of_ble_eq_true rfl⟩ rfl hl.1 rfl (Nat.le_of_ble_eq_true rfl) dX0_passesKept_18 ⟨Nat.zero_le _, Nat.zero_le _⟩ (fun H locs V => W.eq (g2 := F0 m 21 ls []) rfl ?_)
    refine lv_aload_n (pc := 21) hx hb dX0_passesKept_21 rfl (lv_at hl 0 rfl) ?_
    refine lv_aload_n (pc := 22) hx hb dX0_passesKept_22 rfl (lv_at hl 0 rfl) ?_
    replace hf := bs hf; obtain ⟨r9, hk_10, hf⟩ := hf
    refine x_callV0 (pc := 23) (As := []) (rest := [.ref x0]) X V (mX0_table l D dA s0 hk_10) okX0 ht3 q568 q570 qs6 q119 q571 ⟨rfl, hsX0_table⟩ ⟨Nat.le_of_ble_eq_true rfl, Nat.le_of_ble_eq_true rfl⟩ rfl hl.1 rfl (Nat.le_of_ble_eq_true rfl) dX0_passesKept_23 ⟨Nat.zero_le _, Nat.zero_le _⟩ (fun H locs V => W.eq (g2 := F0 m 26 ls [.ref r9, .ref x0]) rfl ?_)
    replace hf := b3s hf; obtain ⟨r11, I12, L13, hk_14, hf⟩ := hf
    refine x_callV0 (pc := 26) (As := [.ref r9]) (rest := []) X V (mX0_passes l D dA s0 hk_14) okX0 ht3 q1268 q1270 qs27 q119 q1271 ⟨rfl, hsX0_passes⟩ ⟨Nat.le_of_ble_eq_true rfl, Nat.le_of_ble_eq_true rfl⟩ rfl hl.1 rfl (Nat.le_of_ble_eq_true rfl) dX0_passesKept_26 ⟨Nat.zero_le _, Nat.zero_le _⟩ (fun H locs V => W.eq (g2 := F0 m 29 ls [.int r11]) rfl ?_)
    cases hf
    exact x_iret (pc := 29) X V hr dX0_passesKept_29
  · replace hf := if_t hf c5
    refine lv_bipush (pc := 13) (v := (-3 : Int32)) hx hb dX0_passesKept_13 (by decide) ?_
    cases hf
    exact x_iret (pc := 15) X V hr dX0_passesKept_15
theorem mX0_passesKept {nf : Nat} (l : Launch) (D : va_G) (dA : Nat → ClassId) (s0 : Nat) {T : xT} {N : xT} {Z : Nat} {I : xI} {L : xL} {R : xR} {x0 : Nat} {ro : Int32} {Io : xI} {Lo : xL} {Ro : xR} (hf : fX0_passesKept nf T N I L R x0 = some (ro, Io, Lo, Ro)) : XMet l D dA s0 yX0_passesKept (ws_ yX0_passesKept cX0_passesKept 1 ((some .int))) (195) (9452) [.ref x0] T N Z I L R (some (.int ro)) T N Z Io Lo Ro 0 0 :=
  x_start (own := RX0) rfl (by decide) (Nat.le_of_ble_eq_true rfl) (lv := [(0, .ref x0)]) rfl (fun p e s m below meth c ls X hr hini V hl => wX0_passesKept_e X hr hf V hl)
set_option maxHeartbeats 400000 in
set_option maxRecDepth 100000 in
theorem wX0_pass_e {nf : Nat} {p : Program} {l : Launch} {e : Env} {s : State} {m : MethodId} {args : Array Value} {below : List Frame} {meth : Method} {c : Code} {D : va_G} {dA : Nat → ClassId} {s0 : Nat} {T : xT} {N : xT} {Z : Nat} {I : xI} {L : xL} {R : xR} {H : Heap} {locs : List Loc} {ls : Array Slot} {x0 : Nat} {ro : Int32} {Io : xI} {Lo : xL} {Ro : xR} (X : Cx D dA s0 p m c cX0_pass 1 s args RX0 meth) (hr : meth.sig.returnType = (some .int)) (hf : fX0_pass nf T N I L R x0 = some (ro, Io, Lo, Ro)) (V : Iv D dA s0 s T N Z I L R H locs) (hl : lv_has ls 1 [(0, .ref x0)]) : W p l e { frames := 196, cells := 0, slots := 0, locals := 9472 } s m args below meth c H locs 0 0 (MQ below (xQ D dA s0 (some (.int ro)) T N Z Io Lo Ro) args s 0 0 (fun q => s0 ≤ q)) (F0 m 0 ls []) := by
  have hx := X.1.1
  have hb := X.1.2.1
  unfold fX0_pass at hf
  refine lv_aload_n (pc := 0) hx hb dX0_pass_0 rfl (lv_at hl 0 rfl) ?_
  refine lv_aload_n (pc := 1) hx hb dX0_pass_1 rfl (lv_at hl 0 rfl) ?_
  replace hf := tg_s hf; obtain ⟨ht6, hf⟩ := hf
  replace hf := b4s hf; obtain ⟨r1, I2, L3, R4, hk_5, hf⟩ := hf
  refine x_callV0 (pc := 2) (As := []) (rest := [.ref x0]) X V (mX0_passesKept l D dA s0 hk_5) okX0 ht6 q1264 q1266 qs26 q119 q1267 ⟨rfl, hsX0_passesKept⟩ ⟨Nat.le_of_ble_eq_true rfl, Nat.le_of_ble_eq_true rfl⟩ rfl hl.1 rfl (Nat.le_of_ble_eq_true rfl) dX0_pass_2 ⟨Nat.zero_le _, Nat.zero_le _⟩ (fun H locs V => W.eq (g2 := F0 m 5 ls [.int r1, .ref x0]) rfl ?_)
  replace hf := b2s hf; obtain ⟨r7, I8, hk_9, hf⟩ := hf
  refine x_callV0 (pc := 5) (As := [.int r1]) (rest := []) X V (mX0_doneOr l D dA s0 hk_9) okX0 ht6 q1236 q1238 qs22 q119 q1239 ⟨rfl, hsX0_doneOr⟩ ⟨Nat.le_of_ble_eq_true rfl, Nat.le_of_ble_eq_true rfl⟩ rfl hl.1 rfl (Nat.le_of_ble_eq_true rfl) dX0_pass_5 ⟨Nat.zero_le _, Nat.zero_le _⟩ (fun H locs V => W.eq (g2 := F0 m 8 ls [.int r7]) rfl ?_)
  cases hf
  exact x_iret (pc := 8) X V hr dX0_pass_8
theorem mX0_pass {nf : Nat} (l : Launch) (D : va_G) (dA : Nat → ClassId) (s0 : Nat) {T : xT} {N : xT} {Z : Nat} {I : xI} {L : xL} {R : xR} {x0 : Nat} {ro : Int32} {Io : xI} {Lo : xL} {Ro : xR} (hf : fX0_pass nf T N I L R x0 = some (ro, Io, Lo, Ro)) : XMet l D dA s0 yX0_pass (ws_ yX0_pass cX0_pass 1 ((some .int))) (196) (9472) [.ref x0] T N Z I L R (some (.int ro)) T N Z Io Lo Ro 0 0 :=
  x_start (own := RX0) rfl (by decide) (Nat.le_of_ble_eq_true rfl) (lv := [(0, .ref x0)]) rfl (fun p e s m below meth c ls X hr hini V hl => wX0_pass_e X hr hf V hl)
set_option maxHeartbeats 400000 in
set_option maxRecDepth 100000 in
theorem wX0_undo_e {p : Program} {l : Launch} {e : Env} {s : State} {m : MethodId} {args : Array Value} {below : List Frame} {meth : Method} {c : Code} {D : va_G} {dA : Nat → ClassId} {s0 : Nat} {T : xT} {N : xT} {Z : Nat} {I : xI} {L : xL} {R : xR} {H : Heap} {locs : List Loc} {ls : Array Slot} {x0 : Nat} {ro : Int32} {Io : xI} (X : Cx D dA s0 p m c cX0_undo 1 s args RX0 meth) (hr : meth.sig.returnType = (some .int)) (hf : fX0_undo T N I R x0 = some (ro, Io)) (V : Iv D dA s0 s T N Z I L R H locs) (hl : lv_has ls 1 [(0, .ref x0)]) : W p l e { frames := 3, cells := 0, slots := 0, locals := 102 } s m args below meth c H locs 0 0 (MQ below (xQ D dA s0 (some (.int ro)) T N Z Io L R) args s 0 0 (fun q => s0 ≤ q)) (F0 m 0 ls []) := by
  have hx := X.1.1
  have hb := X.1.2.1
  unfold fX0_undo at hf
  refine lv_aload_n (pc := 0) hx hb dX0_undo_0 rfl (lv_at hl 0 rfl) ?_
  replace hf := tg_s hf; obtain ⟨ht1, hf⟩ := hf
  refine x_get (pc := 1) X V okX0 ht1 15 (by decide) q375 (v := .int (I x0 15)) rfl dX0_undo_1 ?_
  refine lv_if_ne (pc := 4) (tgt := 14) hx hb dX0_undo_4 (by decide) (fun c2 => ?_) (fun c2 => ?_)
  · replace hf := if_f hf c2
    refine lv_aload_n (pc := 14) hx hb dX0_undo_14 rfl (lv_at hl 0 rfl) ?_
    refine lv_dup (pc := 15) hx hb dX0_undo_15 rfl ?_
    refine x_get (pc := 16) X V okX0 ht1 15 (by decide) q375 (v := .int (I x0 15)) rfl dX0_undo_16 ?_
    refine lv_iconst (pc := 19) (v := (ii 1)) hx hb dX0_undo_19 (by decide) ?_
    refine lv_isub (pc := 20) hx hb dX0_undo_20 ?_
    replace hf := nm_s hf; obtain ⟨I3, hI3, hf⟩ := hf
    refine x_puti (pc := 21) X V okX0 (by decide) ht1 15 (by decide) q375 (Or.inl rfl) hI3 (fun _ _ _ => rfl) rfl rfl dX0_undo_21 (fun H locs V => ?_)
    refine lv_aload_n (pc := 24) hx hb dX0_undo_24 rfl (lv_at hl 0 rfl) ?_
    replace hf := bs hf; obtain ⟨r4, hk_5, hf⟩ := hf
    refine x_callV0 (pc := 25) (As := []) (rest := []) X V (mX0_table l D dA s0 hk_5) okX0 ht1 q568 q570 qs6 q119 q571 ⟨rfl, hsX0_table⟩ ⟨Nat.le_of_ble_eq_true rfl, Nat.le_of_ble_eq_true rfl⟩ rfl hl.1 rfl (Nat.le_of_ble_eq_true rfl) dX0_undo_25 ⟨Nat.zero_le _, Nat.zero_le _⟩ (fun H locs V => W.eq (g2 := F0 m 28 ls [.ref r4]) rfl ?_)
    refine lv_aload_n (pc := 28) hx hb dX0_undo_28 rfl (lv_at hl 0 rfl) ?_
    replace hf := bs hf; obtain ⟨a6, ha6, hf⟩ := hf
    refine x_get (pc := 29) X V okX0 ht1 4 (by decide) q364 (v := va_rf (R x0 4)) rfl dX0_undo_29 ?_
    refine x_topr ha6 ?_
    refine lv_aload_n (pc := 32) hx hb dX0_undo_32 rfl (lv_at hl 0 rfl) ?_
    refine x_get (pc := 33) X V okX0 ht1 15 (by decide) q375 (v := .int (I3 x0 15)) rfl dX0_undo_33 ?_
    replace hf := rA_s hf; obtain ⟨j7, hjj7, htj7, hij7, hf⟩ := hf
    refine x_aald (pc := 36) X V (k := 6) rfl (by decide) htj7 hij7 hjj7 dX0_undo_36 ?_
    replace hf := bs hf; obtain ⟨a8, ha8, hf⟩ := hf
    refine x_topr ha8 ?_
    replace hf := tg_s hf; obtain ⟨ht11, hf⟩ := hf
    replace hf := bs hf; obtain ⟨I9, hk_10, hf⟩ := hf
    refine x_callV0 (pc := 37) (As := [.ref a8]) (rest := []) X V (mX2_takes l D dA s0 hk_10) okX2 ht11 q1227 q461 q462 q121 q463 ⟨rfl, hsX2_takes⟩ ⟨Nat.le_of_ble_eq_true rfl, Nat.le_of_ble_eq_true rfl⟩ rfl hl.1 rfl (Nat.le_of_ble_eq_true rfl) dX0_undo_37 ⟨Nat.zero_le _, Nat.zero_le _⟩ (fun H locs V => W.eq (g2 := F0 m 40 ls []) rfl ?_)
    refine lv_aload_n (pc := 40) hx hb dX0_undo_40 rfl (lv_at hl 0 rfl) ?_
    refine lv_aload_n (pc := 41) hx hb dX0_undo_41 rfl (lv_at hl 0 rfl) ?_
    replace hf := bs hf; obtain ⟨a12, ha12, hf⟩ := hf
    refine x_get (pc := 42) X V okX0 ht1 6 (by decide) q366 (v := va_rf (R x0 6)) rfl dX0_undo_42 ?_
    refine x_topr ha12 ?_
    refine lv_aload_n (pc := 45) hx hb dX0_undo_45 rfl (lv_at hl 0 rfl) ?_
    refine x_get (pc := 46) X V okX0 ht1 15 (by decide) q375 (v := .int (I9 x0 15)) rfl dX0_undo_46 ?_
    replace hf := rA_s hf; obtain ⟨j13, hjj13, htj13, hij13, hf⟩ := hf
    refine x_iald (pc := 49) X V htj13 hij13 hjj13 dX0_undo_49 ?_
    replace hf := b2s hf; obtain ⟨r14, I15, hk_16, hf⟩ := hf
    refine x_callV0 (pc := 50) (As := [.int (I9 a12 j13)]) (rest := []) X V (mX0_done l D dA s0 hk_16) okX0 ht1 q542 q544 qs3 q119 q545 ⟨rfl, hsX0_done⟩ ⟨Nat.le_of_ble_eq_true rfl, Nat.le_of_ble_eq_true rfl⟩ rfl hl.1 rfl (Nat.le_of_ble_eq_true rfl) dX0_undo_50 ⟨Nat.zero_le _, Nat.zero_le _⟩ (fun H locs V => W.eq (g2 := F0 m 53 ls [.int r14]) rfl ?_)
    cases hf
    exact x_iret (pc := 53) X V hr dX0_undo_53
  · replace hf := if_t hf c2
    refine lv_aload_n (pc := 7) hx hb dX0_undo_7 rfl (lv_at hl 0 rfl) ?_
    refine lv_bipush (pc := 8) (v := (-3 : Int32)) hx hb dX0_undo_8 (by decide) ?_
    replace hf := b2s hf; obtain ⟨r17, I18, hk_19, hf⟩ := hf
    refine x_callV0 (pc := 10) (As := [.int (-3 : Int32)]) (rest := []) X V (mX0_refuse l D dA s0 hk_19) okX0 ht1 q452 q454 qs1 q119 q455 ⟨rfl, hsX0_refuse⟩ ⟨Nat.le_of_ble_eq_true rfl, Nat.le_of_ble_eq_true rfl⟩ rfl hl.1 rfl (Nat.le_of_ble_eq_true rfl) dX0_undo_10 ⟨Nat.zero_le _, Nat.zero_le _⟩ (fun H locs V => W.eq (g2 := F0 m 13 ls [.int r17]) rfl ?_)
    cases hf
    exact x_iret (pc := 13) X V hr dX0_undo_13
theorem mX0_undo (l : Launch) (D : va_G) (dA : Nat → ClassId) (s0 : Nat) {T : xT} {N : xT} {Z : Nat} {I : xI} {L : xL} {R : xR} {x0 : Nat} {ro : Int32} {Io : xI} (hf : fX0_undo T N I R x0 = some (ro, Io)) : XMet l D dA s0 yX0_undo (ws_ yX0_undo cX0_undo 1 ((some .int))) (3) (102) [.ref x0] T N Z I L R (some (.int ro)) T N Z Io L R 0 0 :=
  x_start (own := RX0) rfl (by decide) (Nat.le_of_ble_eq_true rfl) (lv := [(0, .ref x0)]) rfl (fun p e s m below meth c ls X hr hini V hl => wX0_undo_e X hr hf V hl)
set_option maxHeartbeats 400000 in
set_option maxRecDepth 100000 in
theorem wX0_where_b33 {nf : Nat} {p : Program} {l : Launch} {e : Env} {s : State} {m : MethodId} {args : Array Value} {below : List Frame} {meth : Method} {c : Code} {D : va_G} {dA : Nat → ClassId} {s0 : Nat} {T : xT} {N : xT} {Z : Nat} {R : xR}  {ro : Int32} {Io : xI} {Lo : xL} (X : Cx D dA s0 p m c cX0_where 4 s args RX0 meth) (hr : meth.sig.returnType = (some .int))   (k : Nat) : ∀ {I : xI} {L : xL} {x0 : Nat} {x1 : Int32} {x2 : Int32} {x3 : Int32} {H : Heap} {locs : List Loc} {ls : Array Slot} , fX0_where_b33 nf T N R k I L x0 x1 x2 x3 = some (ro, Io, Lo) → Iv D dA s0 s T N Z I L R H locs → lv_has ls 4 [(0, .ref x0), (1, .int x1), (2, .int x2), (3, .int x3)] → W p l e { frames := 195, cells := 0, slots := 0, locals := 9452 } s m args below meth c H locs 0 0 (MQ below (xQ D dA s0 (some (.int ro)) T N Z Io Lo R) args s 0 0 (fun q => s0 ≤ q)) (F0 m 33 ls []) := by
  have hx := X.1.1
  have hb := X.1.2.1
  induction k with
  | zero =>
    intro I L x0 x1 x2 x3 H locs ls hf V hl
    exact absurd (show none = some _ from hf) (fun q => nomatch q)
  | succ k ih =>
    intro I L x0 x1 x2 x3 H locs ls hf V hl
    rw [fX0_where_b33] at hf
    refine lv_iload_n (pc := 33) hx hb dX0_where_33 rfl (lv_at hl 3 rfl) ?_
    refine lv_iload_n (pc := 34) hx hb dX0_where_34 rfl (lv_at hl 2 rfl) ?_
    refine lv_icmp_ge (pc := 35) (tgt := 53) hx hb dX0_where_35 (by decide) (fun c1 => ?_) (fun c1 => ?_)
    · replace hf := if_t hf c1
      refine lv_aload_n (pc := 53) hx hb dX0_where_53 rfl (lv_at hl 0 rfl) ?_
      replace hf := tg_s hf; obtain ⟨ht2, hf⟩ := hf
      replace hf := bs hf; obtain ⟨a3, ha3, hf⟩ := hf
      refine x_get (pc := 54) X V okX0 ht2 9 (by decide) q369 (v := va_rf (R x0 9)) rfl dX0_where_54 ?_
      refine x_topr ha3 ?_
      replace hf := tg_s hf; obtain ⟨ht4, hf⟩ := hf
      replace hf := bs hf; obtain ⟨a5, ha5, hf⟩ := hf
      refine x_getN (pc := 57) X V okX2 ht4 0 (by decide) q176 (v := va_rf (R a3 0)) rfl dX0_where_57 ?_
      refine x_topr ha5 ?_
      refine lv_iload_n (pc := 60) hx hb dX0_where_60 rfl (lv_at hl 1 rfl) ?_
      replace hf := rA_s hf; obtain ⟨j6, hjj6, htj6, hij6, hf⟩ := hf
      refine x_iald (pc := 61) X V htj6 hij6 hjj6 dX0_where_61 ?_
      cases hf
      exact x_iret (pc := 62) X V hr dX0_where_62
    · replace hf := if_f hf c1
      refine lv_aload_n (pc := 38) hx hb dX0_where_38 rfl (lv_at hl 0 rfl) ?_
      refine lv_aload_n (pc := 39) hx hb dX0_where_39 rfl (lv_at hl 0 rfl) ?_
      replace hf := tg_s hf; obtain ⟨ht7, hf⟩ := hf
      replace hf := bs hf; obtain ⟨a8, ha8, hf⟩ := hf
      refine x_get (pc := 40) X V okX0 ht7 9 (by decide) q369 (v := va_rf (R x0 9)) rfl dX0_where_40 ?_
      refine x_topr ha8 ?_
      replace hf := b3s hf; obtain ⟨r9, I10, L11, hk_12, hf⟩ := hf
      refine x_callV0 (pc := 43) (As := [.ref a8]) (rest := []) X V (mX0_passes l D dA s0 hk_12) okX0 ht7 q1268 q1270 qs27 q119 q1271 ⟨rfl, hsX0_passes⟩ ⟨Nat.le_of_ble_eq_true rfl, Nat.le_of_ble_eq_true rfl⟩ rfl hl.1 rfl (Nat.le_of_ble_eq_true rfl) dX0_where_43 ⟨Nat.zero_le _, Nat.zero_le _⟩ (fun H locs V => W.eq (g2 := F0 m 46 ls [.int r9]) rfl ?_)
      refine lv_pop (pc := 46) hx hb dX0_where_46 rfl ?_
      replace hf := nm_s hf; obtain ⟨u13, hu13, hf⟩ := hf
      refine lv_iinc (pc := 47) (v := u13) (lv' := [(3, .int u13), (0, .ref x0), (1, .int x1), (2, .int x2)]) hx hb dX0_where_47 hl (k := 3) rfl (by rw [hu13]; rfl) (by decide) rfl (fun ls hl => ?_)
      refine lv_goto (pc := 50) (tgt := 33) hx hb dX0_where_50 (by decide) ?_
      exact ih hf V (lv_sub hl [1, 2, 3, 0] rfl)
set_option maxHeartbeats 400000 in
set_option maxRecDepth 100000 in
theorem wX0_where_e {nf : Nat} {p : Program} {l : Launch} {e : Env} {s : State} {m : MethodId} {args : Array Value} {below : List Frame} {meth : Method} {c : Code} {D : va_G} {dA : Nat → ClassId} {s0 : Nat} {T : xT} {N : xT} {Z : Nat} {I : xI} {L : xL} {R : xR} {H : Heap} {locs : List Loc} {ls : Array Slot} {x0 : Nat} {x1 : Int32} {x2 : Int32} {ro : Int32} {Io : xI} {Lo : xL} (X : Cx D dA s0 p m c cX0_where 4 s args RX0 meth) (hr : meth.sig.returnType = (some .int)) (hf : fX0_where nf T N I L R x0 x1 x2 = some (ro, Io, Lo)) (V : Iv D dA s0 s T N Z I L R H locs) (hl : lv_has ls 4 [(0, .ref x0), (1, .int x1), (2, .int x2)]) : W p l e { frames := 195, cells := 0, slots := 0, locals := 9452 } s m args below meth c H locs 0 0 (MQ below (xQ D dA s0 (some (.int ro)) T N Z Io Lo R) args s 0 0 (fun q => s0 ≤ q)) (F0 m 0 ls []) := by
  have hx := X.1.1
  have hb := X.1.2.1
  unfold fX0_where at hf
  refine lv_aload_n (pc := 0) hx hb dX0_where_0 rfl (lv_at hl 0 rfl) ?_
  refine lv_iload_n (pc := 1) hx hb dX0_where_1 rfl (lv_at hl 1 rfl) ?_
  replace hf := tg_s hf; obtain ⟨ht3, hf⟩ := hf
  replace hf := bs hf; obtain ⟨r1, hk_2, hf⟩ := hf
  refine x_callV0 (pc := 2) (As := [.int x1]) (rest := []) X V (mX0_isChild l D dA s0 hk_2) okX0 ht3 q588 q590 qs8 q119 q591 ⟨rfl, hsX0_isChild⟩ ⟨Nat.le_of_ble_eq_true rfl, Nat.le_of_ble_eq_true rfl⟩ rfl hl.1 rfl (Nat.le_of_ble_eq_true rfl) dX0_where_2 ⟨Nat.zero_le _, Nat.zero_le _⟩ (fun H locs V => W.eq (g2 := F0 m 5 ls [.int r1]) rfl ?_)
  refine lv_if_eq (pc := 5) (tgt := 18) hx hb dX0_where_5 (by decide) (fun c4 => ?_) (fun c4 => ?_)
  · replace hf := if_t hf c4
    refine lv_iconst (pc := 18) (v := (-1 : Int32)) hx hb dX0_where_18 (by decide) ?_
    cases hf
    exact x_iret (pc := 19) X V hr dX0_where_19
  · replace hf := if_f hf c4
    refine lv_iload_n (pc := 8) hx hb dX0_where_8 rfl (lv_at hl 2 rfl) ?_
    refine lv_iconst (pc := 9) (v := (ii 0)) hx hb dX0_where_9 (by decide) ?_
    refine lv_bipush (pc := 10) (v := (ii 60)) hx hb dX0_where_10 (by decide) ?_
    replace hf := bs hf; obtain ⟨r5, hk_6, hf⟩ := hf
    refine x_callS0 (pc := 12) (As := [.int x2, .int (ii 0), .int (ii 60)]) (rest := []) X V (mX0_in l D dA s0 hk_6) q449 q450 q119 q451 hsX0_in ⟨Nat.le_of_ble_eq_true rfl, Nat.le_of_ble_eq_true rfl⟩ rfl hl.1 rfl (Nat.le_of_ble_eq_true rfl) dX0_where_12 ⟨Nat.zero_le _, Nat.zero_le _⟩ (fun H locs V => W.eq (g2 := F0 m 15 ls [.int r5]) rfl ?_)
    refine lv_if_ne (pc := 15) (tgt := 20) hx hb dX0_where_15 (by decide) (fun c7 => ?_) (fun c7 => ?_)
    · replace hf := if_f hf c7
      refine lv_aload_n (pc := 20) hx hb dX0_where_20 rfl (lv_at hl 0 rfl) ?_
      replace hf := bs hf; obtain ⟨a8, ha8, hf⟩ := hf
      refine x_get (pc := 21) X V okX0 ht3 9 (by decide) q369 (v := va_rf (R x0 9)) rfl dX0_where_21 ?_
      refine x_topr ha8 ?_
      refine lv_aload_n (pc := 24) hx hb dX0_where_24 rfl (lv_at hl 0 rfl) ?_
      replace hf := bs hf; obtain ⟨r9, hk_10, hf⟩ := hf
      refine x_callV0 (pc := 25) (As := []) (rest := [.ref a8]) X V (mX0_table l D dA s0 hk_10) okX0 ht3 q568 q570 qs6 q119 q571 ⟨rfl, hsX0_table⟩ ⟨Nat.le_of_ble_eq_true rfl, Nat.le_of_ble_eq_true rfl⟩ rfl hl.1 rfl (Nat.le_of_ble_eq_true rfl) dX0_where_25 ⟨Nat.zero_le _, Nat.zero_le _⟩ (fun H locs V => W.eq (g2 := F0 m 28 ls [.ref r9, .ref a8]) rfl ?_)
      replace hf := tg_s hf; obtain ⟨ht13, hf⟩ := hf
      replace hf := bs hf; obtain ⟨I11, hk_12, hf⟩ := hf
      refine x_callV0 (pc := 28) (As := [.ref r9]) (rest := []) X V (mX2_takes l D dA s0 hk_12) okX2 ht13 q1227 q461 q462 q121 q463 ⟨rfl, hsX2_takes⟩ ⟨Nat.le_of_ble_eq_true rfl, Nat.le_of_ble_eq_true rfl⟩ rfl hl.1 rfl (Nat.le_of_ble_eq_true rfl) dX0_where_28 ⟨Nat.zero_le _, Nat.zero_le _⟩ (fun H locs V => W.eq (g2 := F0 m 31 ls []) rfl ?_)
      refine lv_iconst (pc := 31) (v := (ii 0)) hx hb dX0_where_31 (by decide) ?_
      refine lv_istore_n (pc := 32) (lv' := [(3, .int (ii 0)), (0, .ref x0), (1, .int x1), (2, .int x2)]) hx hb dX0_where_32 rfl hl (by decide) rfl (fun ls hl => ?_)
      exact wX0_where_b33 X hr nf hf V (lv_sub hl [1, 2, 3, 0] rfl)
    · replace hf := if_t hf c7
      refine lv_iconst (pc := 18) (v := (-1 : Int32)) hx hb dX0_where_18 (by decide) ?_
      cases hf
      exact x_iret (pc := 19) X V hr dX0_where_19
theorem mX0_where {nf : Nat} (l : Launch) (D : va_G) (dA : Nat → ClassId) (s0 : Nat) {T : xT} {N : xT} {Z : Nat} {I : xI} {L : xL} {R : xR} {x0 : Nat} {x1 : Int32} {x2 : Int32} {ro : Int32} {Io : xI} {Lo : xL} (hf : fX0_where nf T N I L R x0 x1 x2 = some (ro, Io, Lo)) : XMet l D dA s0 yX0_where (ws_ yX0_where cX0_where 4 ((some .int))) (195) (9452) [.ref x0, .int x1, .int x2] T N Z I L R (some (.int ro)) T N Z Io Lo R 0 0 :=
  x_start (own := RX0) rfl (by decide) (Nat.le_of_ble_eq_true rfl) (lv := [(0, .ref x0), (1, .int x1), (2, .int x2)]) rfl (fun p e s m below meth c ls X hr hini V hl => wX0_where_e X hr hf V hl)
set_option maxHeartbeats 400000 in
set_option maxRecDepth 100000 in
theorem wX0_again_b23 {nf : Nat} {p : Program} {l : Launch} {e : Env} {s : State} {m : MethodId} {args : Array Value} {below : List Frame} {meth : Method} {c : Code} {D : va_G} {dA : Nat → ClassId} {s0 : Nat} {T : xT} {N : xT} {Z : Nat} {R : xR}  {ro : Int32} {Io : xI} {Lo : xL} (X : Cx D dA s0 p m c cX0_again 3 s args RX0 meth) (hr : meth.sig.returnType = (some .int))   (k : Nat) : ∀ {I : xI} {L : xL} {x0 : Nat} {x1 : Int32} {x2 : Int32} {H : Heap} {locs : List Loc} {ls : Array Slot} , fX0_again_b23 nf T N R k I L x0 x1 x2 = some (ro, Io, Lo) → Iv D dA s0 s T N Z I L R H locs → lv_has ls 3 [(0, .ref x0), (1, .int x1), (2, .int x2)] → W p l e { frames := 195, cells := 0, slots := 0, locals := 9452 } s m args below meth c H locs 0 0 (MQ below (xQ D dA s0 (some (.int ro)) T N Z Io Lo R) args s 0 0 (fun q => s0 ≤ q)) (F0 m 23 ls []) := by
  have hx := X.1.1
  have hb := X.1.2.1
  induction k with
  | zero =>
    intro I L x0 x1 x2 H locs ls hf V hl
    exact absurd (show none = some _ from hf) (fun q => nomatch q)
  | succ k ih =>
    intro I L x0 x1 x2 H locs ls hf V hl
    rw [fX0_again_b23] at hf
    refine lv_iload_n (pc := 23) hx hb dX0_again_23 rfl (lv_at hl 2 rfl) ?_
    refine lv_bipush (pc := 24) (v := (ii 60)) hx hb dX0_again_24 (by decide) ?_
    refine lv_icmp_gt (pc := 26) (tgt := 67) hx hb dX0_again_26 (by decide) (fun c1 => ?_) (fun c1 => ?_)
    · replace hf := if_t hf c1
      refine lv_iconst (pc := 67) (v := (-1 : Int32)) hx hb dX0_again_67 (by decide) ?_
      cases hf
      exact x_iret (pc := 68) X V hr dX0_again_68
    · replace hf := if_f hf c1
      refine lv_aload_n (pc := 29) hx hb dX0_again_29 rfl (lv_at hl 0 rfl) ?_
      refine lv_aload_n (pc := 30) hx hb dX0_again_30 rfl (lv_at hl 0 rfl) ?_
      replace hf := tg_s hf; obtain ⟨ht2, hf⟩ := hf
      replace hf := bs hf; obtain ⟨a3, ha3, hf⟩ := hf
      refine x_get (pc := 31) X V okX0 ht2 9 (by decide) q369 (v := va_rf (R x0 9)) rfl dX0_again_31 ?_
      refine x_topr ha3 ?_
      replace hf := b3s hf; obtain ⟨r4, I5, L6, hk_7, hf⟩ := hf
      refine x_callV0 (pc := 34) (As := [.ref a3]) (rest := []) X V (mX0_passes l D dA s0 hk_7) okX0 ht2 q1268 q1270 qs27 q119 q1271 ⟨rfl, hsX0_passes⟩ ⟨Nat.le_of_ble_eq_true rfl, Nat.le_of_ble_eq_true rfl⟩ rfl hl.1 rfl (Nat.le_of_ble_eq_true rfl) dX0_again_34 ⟨Nat.zero_le _, Nat.zero_le _⟩ (fun H locs V => W.eq (g2 := F0 m 37 ls [.int r4]) rfl ?_)
      refine lv_pop (pc := 37) hx hb dX0_again_37 rfl ?_
      refine lv_aload_n (pc := 38) hx hb dX0_again_38 rfl (lv_at hl 0 rfl) ?_
      refine x_get (pc := 39) X V okX0 ht2 9 (by decide) q369 (v := va_rf (R x0 9)) rfl dX0_again_39 ?_
      refine x_topr ha3 ?_
      replace hf := tg_s hf; obtain ⟨ht8, hf⟩ := hf
      replace hf := bs hf; obtain ⟨a9, ha9, hf⟩ := hf
      refine x_getN (pc := 42) X V okX2 ht8 0 (by decide) q176 (v := va_rf (R a3 0)) rfl dX0_again_42 ?_
      refine x_topr ha9 ?_
      refine lv_iload_n (pc := 45) hx hb dX0_again_45 rfl (lv_at hl 1 rfl) ?_
      replace hf := rA_s hf; obtain ⟨j10, hjj10, htj10, hij10, hf⟩ := hf
      refine x_iald (pc := 46) X V htj10 hij10 hjj10 dX0_again_46 ?_
      refine lv_aload_n (pc := 47) hx hb dX0_again_47 rfl (lv_at hl 0 rfl) ?_
      replace hf := bs hf; obtain ⟨r11, hk_12, hf⟩ := hf
      refine x_callV0 (pc := 48) (As := []) (rest := [.int (I5 a9 j10)]) X V (mX0_table l D dA s0 hk_12) okX0 ht2 q568 q570 qs6 q119 q571 ⟨rfl, hsX0_table⟩ ⟨Nat.le_of_ble_eq_true rfl, Nat.le_of_ble_eq_true rfl⟩ rfl hl.1 rfl (Nat.le_of_ble_eq_true rfl) dX0_again_48 ⟨Nat.zero_le _, Nat.zero_le _⟩ (fun H locs V => W.eq (g2 := F0 m 51 ls [.ref r11, .int (I5 a9 j10)]) rfl ?_)
      replace hf := tg_s hf; obtain ⟨ht13, hf⟩ := hf
      replace hf := bs hf; obtain ⟨a14, ha14, hf⟩ := hf
      refine x_getN (pc := 51) X V okX2 ht13 0 (by decide) q176 (v := va_rf (R r11 0)) rfl dX0_again_51 ?_
      refine x_topr ha14 ?_
      refine lv_iload_n (pc := 54) hx hb dX0_again_54 rfl (lv_at hl 1 rfl) ?_
      replace hf := rA_s hf; obtain ⟨j15, hjj15, htj15, hij15, hf⟩ := hf
      refine x_iald (pc := 55) X V htj15 hij15 hjj15 dX0_again_55 ?_
      refine lv_icmp_ne (pc := 56) (tgt := 61) hx hb dX0_again_56 (by decide) (fun c16 => ?_) (fun c16 => ?_)
      · replace hf := if_f hf c16
        replace hf := nm_s hf; obtain ⟨u17, hu17, hf⟩ := hf
        refine lv_iinc (pc := 61) (v := u17) (lv' := [(2, .int u17), (0, .ref x0), (1, .int x1)]) hx hb dX0_again_61 hl (k := 2) rfl (by rw [hu17]; rfl) (by decide) rfl (fun ls hl => ?_)
        refine lv_goto (pc := 64) (tgt := 23) hx hb dX0_again_64 (by decide) ?_
        exact ih hf V (lv_sub hl [1, 2, 0] rfl)
      · replace hf := if_t hf c16
        refine lv_iload_n (pc := 59) hx hb dX0_again_59 rfl (lv_at hl 2 rfl) ?_
        cases hf
        exact x_iret (pc := 60) X V hr dX0_again_60
set_option maxHeartbeats 400000 in
set_option maxRecDepth 100000 in
theorem wX0_again_e {nf : Nat} {p : Program} {l : Launch} {e : Env} {s : State} {m : MethodId} {args : Array Value} {below : List Frame} {meth : Method} {c : Code} {D : va_G} {dA : Nat → ClassId} {s0 : Nat} {T : xT} {N : xT} {Z : Nat} {I : xI} {L : xL} {R : xR} {H : Heap} {locs : List Loc} {ls : Array Slot} {x0 : Nat} {x1 : Int32} {ro : Int32} {Io : xI} {Lo : xL} (X : Cx D dA s0 p m c cX0_again 3 s args RX0 meth) (hr : meth.sig.returnType = (some .int)) (hf : fX0_again nf T N I L R x0 x1 = some (ro, Io, Lo)) (V : Iv D dA s0 s T N Z I L R H locs) (hl : lv_has ls 3 [(0, .ref x0), (1, .int x1)]) : W p l e { frames := 195, cells := 0, slots := 0, locals := 9452 } s m args below meth c H locs 0 0 (MQ below (xQ D dA s0 (some (.int ro)) T N Z Io Lo R) args s 0 0 (fun q => s0 ≤ q)) (F0 m 0 ls []) := by
  have hx := X.1.1
  have hb := X.1.2.1
  unfold fX0_again at hf
  refine lv_aload_n (pc := 0) hx hb dX0_again_0 rfl (lv_at hl 0 rfl) ?_
  refine lv_iload_n (pc := 1) hx hb dX0_again_1 rfl (lv_at hl 1 rfl) ?_
  replace hf := tg_s hf; obtain ⟨ht3, hf⟩ := hf
  replace hf := bs hf; obtain ⟨r1, hk_2, hf⟩ := hf
  refine x_callV0 (pc := 2) (As := [.int x1]) (rest := []) X V (mX0_isChild l D dA s0 hk_2) okX0 ht3 q588 q590 qs8 q119 q591 ⟨rfl, hsX0_isChild⟩ ⟨Nat.le_of_ble_eq_true rfl, Nat.le_of_ble_eq_true rfl⟩ rfl hl.1 rfl (Nat.le_of_ble_eq_true rfl) dX0_again_2 ⟨Nat.zero_le _, Nat.zero_le _⟩ (fun H locs V => W.eq (g2 := F0 m 5 ls [.int r1]) rfl ?_)
  refine lv_if_ne (pc := 5) (tgt := 10) hx hb dX0_again_5 (by decide) (fun c4 => ?_) (fun c4 => ?_)
  · replace hf := if_f hf c4
    refine lv_aload_n (pc := 10) hx hb dX0_again_10 rfl (lv_at hl 0 rfl) ?_
    replace hf := bs hf; obtain ⟨a5, ha5, hf⟩ := hf
    refine x_get (pc := 11) X V okX0 ht3 9 (by decide) q369 (v := va_rf (R x0 9)) rfl dX0_again_11 ?_
    refine x_topr ha5 ?_
    refine lv_aload_n (pc := 14) hx hb dX0_again_14 rfl (lv_at hl 0 rfl) ?_
    replace hf := bs hf; obtain ⟨r6, hk_7, hf⟩ := hf
    refine x_callV0 (pc := 15) (As := []) (rest := [.ref a5]) X V (mX0_table l D dA s0 hk_7) okX0 ht3 q568 q570 qs6 q119 q571 ⟨rfl, hsX0_table⟩ ⟨Nat.le_of_ble_eq_true rfl, Nat.le_of_ble_eq_true rfl⟩ rfl hl.1 rfl (Nat.le_of_ble_eq_true rfl) dX0_again_15 ⟨Nat.zero_le _, Nat.zero_le _⟩ (fun H locs V => W.eq (g2 := F0 m 18 ls [.ref r6, .ref a5]) rfl ?_)
    replace hf := tg_s hf; obtain ⟨ht10, hf⟩ := hf
    replace hf := bs hf; obtain ⟨I8, hk_9, hf⟩ := hf
    refine x_callV0 (pc := 18) (As := [.ref r6]) (rest := []) X V (mX2_takes l D dA s0 hk_9) okX2 ht10 q1227 q461 q462 q121 q463 ⟨rfl, hsX2_takes⟩ ⟨Nat.le_of_ble_eq_true rfl, Nat.le_of_ble_eq_true rfl⟩ rfl hl.1 rfl (Nat.le_of_ble_eq_true rfl) dX0_again_18 ⟨Nat.zero_le _, Nat.zero_le _⟩ (fun H locs V => W.eq (g2 := F0 m 21 ls []) rfl ?_)
    refine lv_iconst (pc := 21) (v := (ii 1)) hx hb dX0_again_21 (by decide) ?_
    refine lv_istore_n (pc := 22) (lv' := [(2, .int (ii 1)), (0, .ref x0), (1, .int x1)]) hx hb dX0_again_22 rfl hl (by decide) rfl (fun ls hl => ?_)
    exact wX0_again_b23 X hr nf hf V (lv_sub hl [1, 2, 0] rfl)
  · replace hf := if_t hf c4
    refine lv_iconst (pc := 8) (v := (-1 : Int32)) hx hb dX0_again_8 (by decide) ?_
    cases hf
    exact x_iret (pc := 9) X V hr dX0_again_9
theorem mX0_again {nf : Nat} (l : Launch) (D : va_G) (dA : Nat → ClassId) (s0 : Nat) {T : xT} {N : xT} {Z : Nat} {I : xI} {L : xL} {R : xR} {x0 : Nat} {x1 : Int32} {ro : Int32} {Io : xI} {Lo : xL} (hf : fX0_again nf T N I L R x0 x1 = some (ro, Io, Lo)) : XMet l D dA s0 yX0_again (ws_ yX0_again cX0_again 3 ((some .int))) (195) (9452) [.ref x0, .int x1] T N Z I L R (some (.int ro)) T N Z Io Lo R 0 0 :=
  x_start (own := RX0) rfl (by decide) (Nat.le_of_ble_eq_true rfl) (lv := [(0, .ref x0), (1, .int x1)]) rfl (fun p e s m below meth c ls X hr hini V hl => wX0_again_e X hr hf V hl)
set_option maxHeartbeats 400000 in
set_option maxRecDepth 100000 in
theorem wX0_farOf_e {p : Program} {l : Launch} {e : Env} {s : State} {m : MethodId} {args : Array Value} {below : List Frame} {meth : Method} {c : Code} {D : va_G} {dA : Nat → ClassId} {s0 : Nat} {T : xT} {N : xT} {Z : Nat} {I : xI} {L : xL} {R : xR} {H : Heap} {locs : List Loc} {ls : Array Slot} {x0 : Nat} {x1 : Int32} {x2 : Int32} {ro : Int32} (X : Cx D dA s0 p m c cX0_farOf 3 s args RX0 meth) (hr : meth.sig.returnType = (some .int)) (hf : fX0_farOf T N I R x0 x1 x2 = some ro) (V : Iv D dA s0 s T N Z I L R H locs) (hl : lv_has ls 3 [(0, .ref x0), (1, .int x1), (2, .int x2)]) : W p l e { frames := 0, cells := 0, slots := 0, locals := 0 } s m args below meth c H locs 0 0 (MQ below (xQ D dA s0 (some (.int ro)) T N Z I L R) args s 0 0 (fun q => s0 ≤ q)) (F0 m 0 ls []) := by
  have hx := X.1.1
  have hb := X.1.2.1
  unfold fX0_farOf at hf
  refine lv_aload_n (pc := 0) hx hb dX0_farOf_0 rfl (lv_at hl 0 rfl) ?_
  replace hf := tg_s hf; obtain ⟨ht1, hf⟩ := hf
  replace hf := bs hf; obtain ⟨a2, ha2, hf⟩ := hf
  refine x_get (pc := 1) X V okX0 ht1 19 (by decide) q379 (v := va_rf (R x0 19)) rfl dX0_farOf_1 ?_
  refine x_topr ha2 ?_
  refine lv_bipush (pc := 4) (v := (ii 8)) hx hb dX0_farOf_4 (by decide) ?_
  refine lv_iload_n (pc := 6) hx hb dX0_farOf_6 rfl (lv_at hl 1 rfl) ?_
  refine lv_imul (pc := 7) hx hb dX0_farOf_7 ?_
  refine lv_iload_n (pc := 8) hx hb dX0_farOf_8 rfl (lv_at hl 2 rfl) ?_
  refine lv_iadd (pc := 9) hx hb dX0_farOf_9 ?_
  replace hf := rA_s hf; obtain ⟨j3, hjj3, htj3, hij3, hf⟩ := hf
  refine x_iald (pc := 10) X V htj3 hij3 hjj3 dX0_farOf_10 ?_
  cases hf
  exact x_iret (pc := 11) X V hr dX0_farOf_11
theorem mX0_farOf (l : Launch) (D : va_G) (dA : Nat → ClassId) (s0 : Nat) {T : xT} {N : xT} {Z : Nat} {I : xI} {L : xL} {R : xR} {x0 : Nat} {x1 : Int32} {x2 : Int32} {ro : Int32} (hf : fX0_farOf T N I R x0 x1 x2 = some ro) : XMet l D dA s0 yX0_farOf (ws_ yX0_farOf cX0_farOf 3 ((some .int))) (0) (0) [.ref x0, .int x1, .int x2] T N Z I L R (some (.int ro)) T N Z I L R 0 0 :=
  x_start (own := RX0) rfl (by decide) (Nat.le_of_ble_eq_true rfl) (lv := [(0, .ref x0), (1, .int x1), (2, .int x2)]) rfl (fun p e s m below meth c ls X hr hini V hl => wX0_farOf_e X hr hf V hl)
set_option maxHeartbeats 400000 in
set_option maxRecDepth 100000 in
theorem wX0_laysFar_b155 {nf : Nat} {p : Program} {l : Launch} {e : Env} {s : State} {m : MethodId} {args : Array Value} {below : List Frame} {meth : Method} {c : Code} {D : va_G} {dA : Nat → ClassId} {s0 : Nat} {T : xT} {N : xT} {Z : Nat} {L : xL} {R : xR} {kk139 : xI → Nat → Int32 → Option (xI)} {kk147 : xI → Nat → Int32 → Int32 → Option (xI)} {Io : xI} (X : Cx D dA s0 p m c cX0_laysFar 4 s args RX0 meth) (hr : meth.sig.returnType = none) (hk139 : ∀ {I : xI} {x0 : Nat} {x1 : Int32} {H : Heap} {locs : List Loc} {ls : Array Slot} , kk139 I x0 x1 = some Io → Iv D dA s0 s T N Z I L R H locs → lv_has ls 4 [(0, .ref x0), (1, .int x1)] → W p l e { frames := 1, cells := 0, slots := 0, locals := 23 } s m args below meth c H locs 0 0 (MQ below (xQ D dA s0 none T N Z Io L R) args s 0 0 (fun q => s0 ≤ q)) (F0 m 139 ls [])) (hk147 : ∀ {I : xI} {x0 : Nat} {x1 : Int32} {x2 : Int32} {H : Heap} {locs : List Loc} {ls : Array Slot} , kk147 I x0 x1 x2 = some Io → Iv D dA s0 s T N Z I L R H locs → lv_has ls 4 [(0, .ref x0), (1, .int x1), (2, .int x2)] → W p l e { frames := 1, cells := 0, slots := 0, locals := 23 } s m args below meth c H locs 0 0 (MQ below (xQ D dA s0 none T N Z Io L R) args s 0 0 (fun q => s0 ≤ q)) (F0 m 147 ls []))  (k : Nat) : ∀ {I : xI} {x0 : Nat} {x1 : Int32} {x2 : Int32} {x3 : Int32} {H : Heap} {locs : List Loc} {ls : Array Slot} , fX0_laysFar_b155 nf kk139 kk147 T N R k I x0 x1 x2 x3 = some Io → Iv D dA s0 s T N Z I L R H locs → lv_has ls 4 [(0, .ref x0), (1, .int x1), (2, .int x2), (3, .int x3)] → W p l e { frames := 1, cells := 0, slots := 0, locals := 23 } s m args below meth c H locs 0 0 (MQ below (xQ D dA s0 none T N Z Io L R) args s 0 0 (fun q => s0 ≤ q)) (F0 m 155 ls []) := by
  have hx := X.1.1
  have hb := X.1.2.1
  induction k with
  | zero =>
    intro I x0 x1 x2 x3 H locs ls hf V hl
    exact absurd (show none = some _ from hf) (fun q => nomatch q)
  | succ k ih =>
    intro I x0 x1 x2 x3 H locs ls hf V hl
    rw [fX0_laysFar_b155] at hf
    refine lv_iload_n (pc := 155) hx hb dX0_laysFar_155 rfl (lv_at hl 3 rfl) ?_
    refine lv_bipush (pc := 156) (v := (ii 8)) hx hb dX0_laysFar_156 (by decide) ?_
    refine lv_icmp_ge (pc := 158) (tgt := 200) hx hb dX0_laysFar_158 (by decide) (fun c1 => ?_) (fun c1 => ?_)
    · replace hf := if_t hf c1
      replace hf := nm_s hf; obtain ⟨u2, hu2, hf⟩ := hf
      refine lv_iinc (pc := 200) (v := u2) (lv' := [(2, .int u2), (0, .ref x0), (1, .int x1), (3, .int x3)]) hx hb dX0_laysFar_200 hl (k := 2) rfl (by rw [hu2]; rfl) (by decide) rfl (fun ls hl => ?_)
      refine lv_goto (pc := 203) (tgt := 147) hx hb dX0_laysFar_203 (by decide) ?_
      exact hk147 hf V (lv_sub hl [1, 2, 0] rfl)
    · replace hf := if_f hf c1
      refine lv_aload_n (pc := 161) hx hb dX0_laysFar_161 rfl (lv_at hl 0 rfl) ?_
      replace hf := tg_s hf; obtain ⟨ht3, hf⟩ := hf
      replace hf := bs hf; obtain ⟨a4, ha4, hf⟩ := hf
      refine x_get (pc := 162) X V okX0 ht3 19 (by decide) q379 (v := va_rf (R x0 19)) rfl dX0_laysFar_162 ?_
      refine x_topr ha4 ?_
      refine lv_bipush (pc := 165) (v := (ii 8)) hx hb dX0_laysFar_165 (by decide) ?_
      refine lv_iload_n (pc := 167) hx hb dX0_laysFar_167 rfl (lv_at hl 2 rfl) ?_
      refine lv_imul (pc := 168) hx hb dX0_laysFar_168 ?_
      refine lv_iload_n (pc := 169) hx hb dX0_laysFar_169 rfl (lv_at hl 3 rfl) ?_
      refine lv_iadd (pc := 170) hx hb dX0_laysFar_170 ?_
      refine lv_aload_n (pc := 171) hx hb dX0_laysFar_171 rfl (lv_at hl 0 rfl) ?_
      refine lv_iload_n (pc := 172) hx hb dX0_laysFar_172 rfl (lv_at hl 2 rfl) ?_
      refine lv_iload_n (pc := 173) hx hb dX0_laysFar_173 rfl (lv_at hl 3 rfl) ?_
      replace hf := bs hf; obtain ⟨r5, hk_6, hf⟩ := hf
      refine x_callV0 (pc := 174) (As := [.int x2, .int x3]) (rest := [.int (((ii 8) * x2) + x3), .ref a4]) X V (mX0_farOf l D dA s0 hk_6) okX0 ht3 q1294 q1296 qs29 q119 q1297 ⟨rfl, hsX0_farOf⟩ ⟨Nat.le_of_ble_eq_true rfl, Nat.le_of_ble_eq_true rfl⟩ rfl hl.1 rfl (Nat.le_of_ble_eq_true rfl) dX0_laysFar_174 ⟨Nat.zero_le _, Nat.zero_le _⟩ (fun H locs V => W.eq (g2 := F0 m 177 ls [.int r5, .int (((ii 8) * x2) + x3), .ref a4]) rfl ?_)
      refine lv_aload_n (pc := 177) hx hb dX0_laysFar_177 rfl (lv_at hl 0 rfl) ?_
      refine lv_iload_n (pc := 178) hx hb dX0_laysFar_178 rfl (lv_at hl 2 rfl) ?_
      refine lv_iload_n (pc := 179) hx hb dX0_laysFar_179 rfl (lv_at hl 1 rfl) ?_
      replace hf := bs hf; obtain ⟨r7, hk_8, hf⟩ := hf
      refine x_callV0 (pc := 180) (As := [.int x2, .int x1]) (rest := [.int r5, .int (((ii 8) * x2) + x3), .ref a4]) X V (mX0_farOf l D dA s0 hk_8) okX0 ht3 q1294 q1296 qs29 q119 q1297 ⟨rfl, hsX0_farOf⟩ ⟨Nat.le_of_ble_eq_true rfl, Nat.le_of_ble_eq_true rfl⟩ rfl hl.1 rfl (Nat.le_of_ble_eq_true rfl) dX0_laysFar_180 ⟨Nat.zero_le _, Nat.zero_le _⟩ (fun H locs V => W.eq (g2 := F0 m 183 ls [.int r7, .int r5, .int (((ii 8) * x2) + x3), .ref a4]) rfl ?_)
      refine lv_aload_n (pc := 183) hx hb dX0_laysFar_183 rfl (lv_at hl 0 rfl) ?_
      refine lv_iload_n (pc := 184) hx hb dX0_laysFar_184 rfl (lv_at hl 1 rfl) ?_
      refine lv_iload_n (pc := 185) hx hb dX0_laysFar_185 rfl (lv_at hl 3 rfl) ?_
      replace hf := bs hf; obtain ⟨r9, hk_10, hf⟩ := hf
      refine x_callV0 (pc := 186) (As := [.int x1, .int x3]) (rest := [.int r7, .int r5, .int (((ii 8) * x2) + x3), .ref a4]) X V (mX0_farOf l D dA s0 hk_10) okX0 ht3 q1294 q1296 qs29 q119 q1297 ⟨rfl, hsX0_farOf⟩ ⟨Nat.le_of_ble_eq_true rfl, Nat.le_of_ble_eq_true rfl⟩ rfl hl.1 rfl (Nat.le_of_ble_eq_true rfl) dX0_laysFar_186 ⟨Nat.zero_le _, Nat.zero_le _⟩ (fun H locs V => W.eq (g2 := F0 m 189 ls [.int r9, .int r7, .int r5, .int (((ii 8) * x2) + x3), .ref a4]) rfl ?_)
      refine lv_iadd (pc := 189) hx hb dX0_laysFar_189 ?_
      refine va_mmin (pc := 190) hx hb (X.1.2.2.1.trans hl.1.symm) X.1.2.2.2.1 (X.1.2.2.2.2 _ q1293) (X.1.2.2.2.2 _ q521) (X.1.2.2.2.2 _ q132) (X.1.2.2.2.2 _ q522) (Nat.le_of_ble_eq_true rfl) (Nat.le_of_ble_eq_true rfl) (Nat.zero_le _) (Nat.zero_le _) dX0_laysFar_190 ?_
      replace hf := rA_s hf; obtain ⟨j11, hjj11, htj11, hij11, hf⟩ := hf
      replace hf := nm_s hf; obtain ⟨I12, hI12, hf⟩ := hf
      refine x_iast (pc := 193) X V htj11 hij11 hjj11 hI12 dX0_laysFar_193 (fun H locs V => ?_)
      replace hf := nm_s hf; obtain ⟨u13, hu13, hf⟩ := hf
      refine lv_iinc (pc := 194) (v := u13) (lv' := [(3, .int u13), (0, .ref x0), (1, .int x1), (2, .int x2)]) hx hb dX0_laysFar_194 hl (k := 3) rfl (by rw [hu13]; rfl) (by decide) rfl (fun ls hl => ?_)
      refine lv_goto (pc := 197) (tgt := 155) hx hb dX0_laysFar_197 (by decide) ?_
      exact ih hf V (lv_sub hl [1, 2, 3, 0] rfl)
set_option maxHeartbeats 400000 in
set_option maxRecDepth 100000 in
theorem wX0_laysFar_b147 {nf : Nat} {p : Program} {l : Launch} {e : Env} {s : State} {m : MethodId} {args : Array Value} {below : List Frame} {meth : Method} {c : Code} {D : va_G} {dA : Nat → ClassId} {s0 : Nat} {T : xT} {N : xT} {Z : Nat} {L : xL} {R : xR} {kk139 : xI → Nat → Int32 → Option (xI)} {Io : xI} (X : Cx D dA s0 p m c cX0_laysFar 4 s args RX0 meth) (hr : meth.sig.returnType = none) (hk139 : ∀ {I : xI} {x0 : Nat} {x1 : Int32} {H : Heap} {locs : List Loc} {ls : Array Slot} , kk139 I x0 x1 = some Io → Iv D dA s0 s T N Z I L R H locs → lv_has ls 4 [(0, .ref x0), (1, .int x1)] → W p l e { frames := 1, cells := 0, slots := 0, locals := 23 } s m args below meth c H locs 0 0 (MQ below (xQ D dA s0 none T N Z Io L R) args s 0 0 (fun q => s0 ≤ q)) (F0 m 139 ls []))  (k : Nat) : ∀ {I : xI} {x0 : Nat} {x1 : Int32} {x2 : Int32} {H : Heap} {locs : List Loc} {ls : Array Slot} , fX0_laysFar_b147 nf kk139 T N R k I x0 x1 x2 = some Io → Iv D dA s0 s T N Z I L R H locs → lv_has ls 4 [(0, .ref x0), (1, .int x1), (2, .int x2)] → W p l e { frames := 1, cells := 0, slots := 0, locals := 23 } s m args below meth c H locs 0 0 (MQ below (xQ D dA s0 none T N Z Io L R) args s 0 0 (fun q => s0 ≤ q)) (F0 m 147 ls []) := by
  have hx := X.1.1
  have hb := X.1.2.1
  induction k with
  | zero =>
    intro I x0 x1 x2 H locs ls hf V hl
    exact absurd (show none = some _ from hf) (fun q => nomatch q)
  | succ k ih =>
    intro I x0 x1 x2 H locs ls hf V hl
    rw [fX0_laysFar_b147] at hf
    refine lv_iload_n (pc := 147) hx hb dX0_laysFar_147 rfl (lv_at hl 2 rfl) ?_
    refine lv_bipush (pc := 148) (v := (ii 8)) hx hb dX0_laysFar_148 (by decide) ?_
    refine lv_icmp_ge (pc := 150) (tgt := 206) hx hb dX0_laysFar_150 (by decide) (fun c1 => ?_) (fun c1 => ?_)
    · replace hf := if_t hf c1
      replace hf := nm_s hf; obtain ⟨u2, hu2, hf⟩ := hf
      refine lv_iinc (pc := 206) (v := u2) (lv' := [(1, .int u2), (0, .ref x0), (2, .int x2)]) hx hb dX0_laysFar_206 hl (k := 1) rfl (by rw [hu2]; rfl) (by decide) rfl (fun ls hl => ?_)
      refine lv_goto (pc := 209) (tgt := 139) hx hb dX0_laysFar_209 (by decide) ?_
      exact hk139 hf V (lv_sub hl [1, 0] rfl)
    · replace hf := if_f hf c1
      refine lv_iconst (pc := 153) (v := (ii 0)) hx hb dX0_laysFar_153 (by decide) ?_
      refine lv_istore_n (pc := 154) (lv' := [(3, .int (ii 0)), (0, .ref x0), (1, .int x1), (2, .int x2)]) hx hb dX0_laysFar_154 rfl hl (by decide) rfl (fun ls hl => ?_)
      exact wX0_laysFar_b155 X hr hk139 ih nf hf V (lv_sub hl [1, 2, 3, 0] rfl)
set_option maxHeartbeats 400000 in
set_option maxRecDepth 100000 in
theorem wX0_laysFar_b139 {nf : Nat} {p : Program} {l : Launch} {e : Env} {s : State} {m : MethodId} {args : Array Value} {below : List Frame} {meth : Method} {c : Code} {D : va_G} {dA : Nat → ClassId} {s0 : Nat} {T : xT} {N : xT} {Z : Nat} {L : xL} {R : xR}  {Io : xI} (X : Cx D dA s0 p m c cX0_laysFar 4 s args RX0 meth) (hr : meth.sig.returnType = none)   (k : Nat) : ∀ {I : xI} {x0 : Nat} {x1 : Int32} {H : Heap} {locs : List Loc} {ls : Array Slot} , fX0_laysFar_b139 nf T N R k I x0 x1 = some Io → Iv D dA s0 s T N Z I L R H locs → lv_has ls 4 [(0, .ref x0), (1, .int x1)] → W p l e { frames := 1, cells := 0, slots := 0, locals := 23 } s m args below meth c H locs 0 0 (MQ below (xQ D dA s0 none T N Z Io L R) args s 0 0 (fun q => s0 ≤ q)) (F0 m 139 ls []) := by
  have hx := X.1.1
  have hb := X.1.2.1
  induction k with
  | zero =>
    intro I x0 x1 H locs ls hf V hl
    exact absurd (show none = some _ from hf) (fun q => nomatch q)
  | succ k ih =>
    intro I x0 x1 H locs ls hf V hl
    rw [fX0_laysFar_b139] at hf
    refine lv_iload_n (pc := 139) hx hb dX0_laysFar_139 rfl (lv_at hl 1 rfl) ?_
    refine lv_bipush (pc := 140) (v := (ii 8)) hx hb dX0_laysFar_140 (by decide) ?_
    refine lv_icmp_ge (pc := 142) (tgt := 212) hx hb dX0_laysFar_142 (by decide) (fun c1 => ?_) (fun c1 => ?_)
    · replace hf := if_t hf c1
      cases hf
      exact x_vret (pc := 212) X V hr dX0_laysFar_212
    · replace hf := if_f hf c1
      refine lv_iconst (pc := 145) (v := (ii 0)) hx hb dX0_laysFar_145 (by decide) ?_
      refine lv_istore_n (pc := 146) (lv' := [(2, .int (ii 0)), (0, .ref x0), (1, .int x1)]) hx hb dX0_laysFar_146 rfl hl (by decide) rfl (fun ls hl => ?_)
      exact wX0_laysFar_b147 X hr ih nf hf V (lv_sub hl [1, 2, 0] rfl)
set_option maxHeartbeats 400000 in
set_option maxRecDepth 100000 in
theorem wX0_laysFar_b40 {nf : Nat} {p : Program} {l : Launch} {e : Env} {s : State} {m : MethodId} {args : Array Value} {below : List Frame} {meth : Method} {c : Code} {D : va_G} {dA : Nat → ClassId} {s0 : Nat} {T : xT} {N : xT} {Z : Nat} {L : xL} {R : xR}  {Io : xI} (X : Cx D dA s0 p m c cX0_laysFar 4 s args RX0 meth) (hr : meth.sig.returnType = none)   (k : Nat) : ∀ {I : xI} {x0 : Nat} {x1 : Int32} {H : Heap} {locs : List Loc} {ls : Array Slot} , fX0_laysFar_b40 nf T N R k I x0 x1 = some Io → Iv D dA s0 s T N Z I L R H locs → lv_has ls 4 [(0, .ref x0), (1, .int x1)] → W p l e { frames := 1, cells := 0, slots := 0, locals := 23 } s m args below meth c H locs 0 0 (MQ below (xQ D dA s0 none T N Z Io L R) args s 0 0 (fun q => s0 ≤ q)) (F0 m 40 ls []) := by
  have hx := X.1.1
  have hb := X.1.2.1
  induction k with
  | zero =>
    intro I x0 x1 H locs ls hf V hl
    exact absurd (show none = some _ from hf) (fun q => nomatch q)
  | succ k ih =>
    intro I x0 x1 H locs ls hf V hl
    rw [fX0_laysFar_b40] at hf
    refine lv_iload_n (pc := 40) hx hb dX0_laysFar_40 rfl (lv_at hl 1 rfl) ?_
    refine lv_aload_n (pc := 41) hx hb dX0_laysFar_41 rfl (lv_at hl 0 rfl) ?_
    replace hf := tg_s hf; obtain ⟨ht1, hf⟩ := hf
    replace hf := bs hf; obtain ⟨a2, ha2, hf⟩ := hf
    refine x_get (pc := 42) X V okX0 ht1 2 (by decide) q362 (v := va_rf (R x0 2)) rfl dX0_laysFar_42 ?_
    refine x_topr ha2 ?_
    replace hf := tg_s hf; obtain ⟨ht3, hf⟩ := hf
    refine x_getN (pc := 45) X V okX1 ht3 8 (by decide) q238 (v := .int (I a2 8)) rfl dX0_laysFar_45 ?_
    refine lv_icmp_ge (pc := 48) (tgt := 137) hx hb dX0_laysFar_48 (by decide) (fun c4 => ?_) (fun c4 => ?_)
    · replace hf := if_t hf c4
      refine lv_iconst (pc := 137) (v := (ii 0)) hx hb dX0_laysFar_137 (by decide) ?_
      refine lv_istore_n (pc := 138) (lv' := [(1, .int (ii 0)), (0, .ref x0)]) hx hb dX0_laysFar_138 rfl hl (by decide) rfl (fun ls hl => ?_)
      exact wX0_laysFar_b139 X hr nf hf V (lv_sub hl [1, 0] rfl)
    · replace hf := if_f hf c4
      refine lv_bipush (pc := 51) (v := (ii 8)) hx hb dX0_laysFar_51 (by decide) ?_
      refine lv_aload_n (pc := 53) hx hb dX0_laysFar_53 rfl (lv_at hl 0 rfl) ?_
      refine x_get (pc := 54) X V okX0 ht1 2 (by decide) q362 (v := va_rf (R x0 2)) rfl dX0_laysFar_54 ?_
      refine x_topr ha2 ?_
      replace hf := bs hf; obtain ⟨a5, ha5, hf⟩ := hf
      refine x_getN (pc := 57) X V okX1 ht3 1 (by decide) q224 (v := va_rf (R a2 1)) rfl dX0_laysFar_57 ?_
      refine x_topr ha5 ?_
      refine lv_iload_n (pc := 60) hx hb dX0_laysFar_60 rfl (lv_at hl 1 rfl) ?_
      replace hf := rA_s hf; obtain ⟨j6, hjj6, htj6, hij6, hf⟩ := hf
      refine x_iald (pc := 61) X V htj6 hij6 hjj6 dX0_laysFar_61 ?_
      refine lv_imul (pc := 62) hx hb dX0_laysFar_62 ?_
      refine lv_aload_n (pc := 63) hx hb dX0_laysFar_63 rfl (lv_at hl 0 rfl) ?_
      refine x_get (pc := 64) X V okX0 ht1 2 (by decide) q362 (v := va_rf (R x0 2)) rfl dX0_laysFar_64 ?_
      refine x_topr ha2 ?_
      replace hf := bs hf; obtain ⟨a7, ha7, hf⟩ := hf
      refine x_getN (pc := 67) X V okX1 ht3 2 (by decide) q226 (v := va_rf (R a2 2)) rfl dX0_laysFar_67 ?_
      refine x_topr ha7 ?_
      refine lv_iload_n (pc := 70) hx hb dX0_laysFar_70 rfl (lv_at hl 1 rfl) ?_
      replace hf := rA_s hf; obtain ⟨j8, hjj8, htj8, hij8, hf⟩ := hf
      refine x_iald (pc := 71) X V htj8 hij8 hjj8 dX0_laysFar_71 ?_
      refine lv_iadd (pc := 72) hx hb dX0_laysFar_72 ?_
      replace hf := nm_s hf; obtain ⟨u9, hu9, hf⟩ := hf
      refine x_topi hu9 ?_
      refine lv_istore_n (pc := 73) (lv' := [(2, .int u9), (0, .ref x0), (1, .int x1)]) hx hb dX0_laysFar_73 rfl hl (by decide) rfl (fun ls hl => ?_)
      refine lv_aload_n (pc := 74) hx hb dX0_laysFar_74 rfl (lv_at hl 1 rfl) ?_
      replace hf := bs hf; obtain ⟨a10, ha10, hf⟩ := hf
      refine x_get (pc := 75) X V okX0 ht1 19 (by decide) q379 (v := va_rf (R x0 19)) rfl dX0_laysFar_75 ?_
      refine x_topr ha10 ?_
      refine lv_iload_n (pc := 78) hx hb dX0_laysFar_78 rfl (lv_at hl 0 rfl) ?_
      refine lv_aload_n (pc := 79) hx hb dX0_laysFar_79 rfl (lv_at hl 1 rfl) ?_
      refine x_get (pc := 80) X V okX0 ht1 19 (by decide) q379 (v := va_rf (R x0 19)) rfl dX0_laysFar_80 ?_
      refine x_topr ha10 ?_
      refine lv_iload_n (pc := 83) hx hb dX0_laysFar_83 rfl (lv_at hl 0 rfl) ?_
      replace hf := rA_s hf; obtain ⟨j11, hjj11, htj11, hij11, hf⟩ := hf
      refine x_iald (pc := 84) X V htj11 hij11 hjj11 dX0_laysFar_84 ?_
      refine lv_aload_n (pc := 85) hx hb dX0_laysFar_85 rfl (lv_at hl 1 rfl) ?_
      refine x_get (pc := 86) X V okX0 ht1 2 (by decide) q362 (v := va_rf (R x0 2)) rfl dX0_laysFar_86 ?_
      refine x_topr ha2 ?_
      replace hf := bs hf; obtain ⟨a12, ha12, hf⟩ := hf
      refine x_getN (pc := 89) X V okX1 ht3 3 (by decide) q228 (v := va_rf (R a2 3)) rfl dX0_laysFar_89 ?_
      refine x_topr ha12 ?_
      refine lv_iload_n (pc := 92) hx hb dX0_laysFar_92 rfl (lv_at hl 2 rfl) ?_
      replace hf := rA_s hf; obtain ⟨j13, hjj13, htj13, hij13, hf⟩ := hf
      refine x_iald (pc := 93) X V htj13 hij13 hjj13 dX0_laysFar_93 ?_
      refine va_mmin (pc := 94) hx hb (X.1.2.2.1.trans hl.1.symm) X.1.2.2.2.1 (X.1.2.2.2.2 _ q1293) (X.1.2.2.2.2 _ q521) (X.1.2.2.2.2 _ q132) (X.1.2.2.2.2 _ q522) (Nat.le_of_ble_eq_true rfl) (Nat.le_of_ble_eq_true rfl) (Nat.zero_le _) (Nat.zero_le _) dX0_laysFar_94 ?_
      replace hf := nm_s hf; obtain ⟨I14, hI14, hf⟩ := hf
      refine x_iast (pc := 97) X V htj11 hij11 hjj11 hI14 dX0_laysFar_97 (fun H locs V => ?_)
      refine lv_aload_n (pc := 98) hx hb dX0_laysFar_98 rfl (lv_at hl 1 rfl) ?_
      refine x_get (pc := 99) X V okX0 ht1 19 (by decide) q379 (v := va_rf (R x0 19)) rfl dX0_laysFar_99 ?_
      refine x_topr ha10 ?_
      refine lv_bipush (pc := 102) (v := (ii 8)) hx hb dX0_laysFar_102 (by decide) ?_
      refine lv_aload_n (pc := 104) hx hb dX0_laysFar_104 rfl (lv_at hl 1 rfl) ?_
      refine x_get (pc := 105) X V okX0 ht1 2 (by decide) q362 (v := va_rf (R x0 2)) rfl dX0_laysFar_105 ?_
      refine x_topr ha2 ?_
      refine x_getN (pc := 108) X V okX1 ht3 2 (by decide) q226 (v := va_rf (R a2 2)) rfl dX0_laysFar_108 ?_
      refine x_topr ha7 ?_
      refine lv_iload_n (pc := 111) hx hb dX0_laysFar_111 rfl (lv_at hl 2 rfl) ?_
      refine x_iald (pc := 112) X V htj8 hij8 hjj8 dX0_laysFar_112 ?_
      refine lv_imul (pc := 113) hx hb dX0_laysFar_113 ?_
      refine lv_aload_n (pc := 114) hx hb dX0_laysFar_114 rfl (lv_at hl 1 rfl) ?_
      refine x_get (pc := 115) X V okX0 ht1 2 (by decide) q362 (v := va_rf (R x0 2)) rfl dX0_laysFar_115 ?_
      refine x_topr ha2 ?_
      refine x_getN (pc := 118) X V okX1 ht3 1 (by decide) q224 (v := va_rf (R a2 1)) rfl dX0_laysFar_118 ?_
      refine x_topr ha5 ?_
      refine lv_iload_n (pc := 121) hx hb dX0_laysFar_121 rfl (lv_at hl 2 rfl) ?_
      refine x_iald (pc := 122) X V htj6 hij6 hjj6 dX0_laysFar_122 ?_
      refine lv_iadd (pc := 123) hx hb dX0_laysFar_123 ?_
      refine lv_aload_n (pc := 124) hx hb dX0_laysFar_124 rfl (lv_at hl 1 rfl) ?_
      refine x_get (pc := 125) X V okX0 ht1 19 (by decide) q379 (v := va_rf (R x0 19)) rfl dX0_laysFar_125 ?_
      refine x_topr ha10 ?_
      refine lv_iload_n (pc := 128) hx hb dX0_laysFar_128 rfl (lv_at hl 0 rfl) ?_
      refine x_iald (pc := 129) X V htj11 hij11 hjj11 dX0_laysFar_129 ?_
      replace hf := rA_s hf; obtain ⟨j15, hjj15, htj15, hij15, hf⟩ := hf
      replace hf := nm_s hf; obtain ⟨I16, hI16, hf⟩ := hf
      refine x_iast (pc := 130) X V htj15 hij15 hjj15 hI16 dX0_laysFar_130 (fun H locs V => ?_)
      replace hf := nm_s hf; obtain ⟨u17, hu17, hf⟩ := hf
      refine lv_iinc (pc := 131) (v := u17) (lv' := [(1, .int u17), (2, .int u9), (0, .ref x0)]) hx hb dX0_laysFar_131 hl (k := 2) rfl (by rw [hu17]; rfl) (by decide) rfl (fun ls hl => ?_)
      refine lv_goto (pc := 134) (tgt := 40) hx hb dX0_laysFar_134 (by decide) ?_
      exact ih hf V (lv_sub hl [2, 0] rfl)
set_option maxHeartbeats 400000 in
set_option maxRecDepth 100000 in
theorem wX0_laysFar_b2 {nf : Nat} {p : Program} {l : Launch} {e : Env} {s : State} {m : MethodId} {args : Array Value} {below : List Frame} {meth : Method} {c : Code} {D : va_G} {dA : Nat → ClassId} {s0 : Nat} {T : xT} {N : xT} {Z : Nat} {L : xL} {R : xR}  {Io : xI} (X : Cx D dA s0 p m c cX0_laysFar 4 s args RX0 meth) (hr : meth.sig.returnType = none)   (k : Nat) : ∀ {I : xI} {x0 : Nat} {x1 : Int32} {H : Heap} {locs : List Loc} {ls : Array Slot} , fX0_laysFar_b2 nf T N R k I x0 x1 = some Io → Iv D dA s0 s T N Z I L R H locs → lv_has ls 4 [(0, .ref x0), (1, .int x1)] → W p l e { frames := 1, cells := 0, slots := 0, locals := 23 } s m args below meth c H locs 0 0 (MQ below (xQ D dA s0 none T N Z Io L R) args s 0 0 (fun q => s0 ≤ q)) (F0 m 2 ls []) := by
  have hx := X.1.1
  have hb := X.1.2.1
  induction k with
  | zero =>
    intro I x0 x1 H locs ls hf V hl
    exact absurd (show none = some _ from hf) (fun q => nomatch q)
  | succ k ih =>
    intro I x0 x1 H locs ls hf V hl
    rw [fX0_laysFar_b2] at hf
    refine lv_iload_n (pc := 2) hx hb dX0_laysFar_2 rfl (lv_at hl 1 rfl) ?_
    refine lv_bipush (pc := 3) (v := (ii 64)) hx hb dX0_laysFar_3 (by decide) ?_
    refine lv_icmp_ge (pc := 5) (tgt := 38) hx hb dX0_laysFar_5 (by decide) (fun c1 => ?_) (fun c1 => ?_)
    · replace hf := if_t hf c1
      refine lv_iconst (pc := 38) (v := (ii 0)) hx hb dX0_laysFar_38 (by decide) ?_
      refine lv_istore_n (pc := 39) (lv' := [(1, .int (ii 0)), (0, .ref x0)]) hx hb dX0_laysFar_39 rfl hl (by decide) rfl (fun ls hl => ?_)
      exact wX0_laysFar_b40 X hr nf hf V (lv_sub hl [1, 0] rfl)
    · replace hf := if_f hf c1
      refine lv_aload_n (pc := 8) hx hb dX0_laysFar_8 rfl (lv_at hl 0 rfl) ?_
      replace hf := tg_s hf; obtain ⟨ht2, hf⟩ := hf
      replace hf := bs hf; obtain ⟨a3, ha3, hf⟩ := hf
      refine x_get (pc := 9) X V okX0 ht2 19 (by decide) q379 (v := va_rf (R x0 19)) rfl dX0_laysFar_9 ?_
      refine x_topr ha3 ?_
      refine lv_iload_n (pc := 12) hx hb dX0_laysFar_12 rfl (lv_at hl 1 rfl) ?_
      refine lv_iload_n (pc := 13) hx hb dX0_laysFar_13 rfl (lv_at hl 1 rfl) ?_
      refine lv_bipush (pc := 14) (v := (ii 8)) hx hb dX0_laysFar_14 (by decide) ?_
      refine lv_idiv (pc := 16) hx hb dX0_laysFar_16 (by decide) ?_
      refine lv_iload_n (pc := 17) hx hb dX0_laysFar_17 rfl (lv_at hl 1 rfl) ?_
      refine lv_bipush (pc := 18) (v := (ii 8)) hx hb dX0_laysFar_18 (by decide) ?_
      refine lv_irem (pc := 20) hx hb dX0_laysFar_20 (by decide) ?_
      refine lv_icmp_ne (pc := 21) (tgt := 28) hx hb dX0_laysFar_21 (by decide) (fun c4 => ?_) (fun c4 => ?_)
      · replace hf := if_f hf c4
        refine lv_ldcw (pc := 28) (v := (ii 1000000)) hx hb X.1.2.2.2.1 (X.1.2.2.2.2 _ q1292) dX0_laysFar_28 ?_
        replace hf := rA_s hf; obtain ⟨j5, hjj5, htj5, hij5, hf⟩ := hf
        replace hf := nm_s hf; obtain ⟨I6, hI6, hf⟩ := hf
        refine x_iast (pc := 31) X V htj5 hij5 hjj5 hI6 dX0_laysFar_31 (fun H locs V => ?_)
        replace hf := nm_s hf; obtain ⟨u7, hu7, hf⟩ := hf
        refine lv_iinc (pc := 32) (v := u7) (lv' := [(1, .int u7), (0, .ref x0)]) hx hb dX0_laysFar_32 hl (k := 1) rfl (by rw [hu7]; rfl) (by decide) rfl (fun ls hl => ?_)
        refine lv_goto (pc := 35) (tgt := 2) hx hb dX0_laysFar_35 (by decide) ?_
        exact ih hf V (lv_sub hl [1, 0] rfl)
      · replace hf := if_t hf c4
        refine lv_iconst (pc := 24) (v := (ii 0)) hx hb dX0_laysFar_24 (by decide) ?_
        refine lv_goto (pc := 25) (tgt := 31) hx hb dX0_laysFar_25 (by decide) ?_
        replace hf := rA_s hf; obtain ⟨j8, hjj8, htj8, hij8, hf⟩ := hf
        replace hf := nm_s hf; obtain ⟨I9, hI9, hf⟩ := hf
        refine x_iast (pc := 31) X V htj8 hij8 hjj8 hI9 dX0_laysFar_31 (fun H locs V => ?_)
        replace hf := nm_s hf; obtain ⟨u10, hu10, hf⟩ := hf
        refine lv_iinc (pc := 32) (v := u10) (lv' := [(1, .int u10), (0, .ref x0)]) hx hb dX0_laysFar_32 hl (k := 1) rfl (by rw [hu10]; rfl) (by decide) rfl (fun ls hl => ?_)
        refine lv_goto (pc := 35) (tgt := 2) hx hb dX0_laysFar_35 (by decide) ?_
        exact ih hf V (lv_sub hl [1, 0] rfl)
set_option maxHeartbeats 400000 in
set_option maxRecDepth 100000 in
theorem wX0_laysFar_e {nf : Nat} {p : Program} {l : Launch} {e : Env} {s : State} {m : MethodId} {args : Array Value} {below : List Frame} {meth : Method} {c : Code} {D : va_G} {dA : Nat → ClassId} {s0 : Nat} {T : xT} {N : xT} {Z : Nat} {I : xI} {L : xL} {R : xR} {H : Heap} {locs : List Loc} {ls : Array Slot} {x0 : Nat} {Io : xI} (X : Cx D dA s0 p m c cX0_laysFar 4 s args RX0 meth) (hr : meth.sig.returnType = none) (hf : fX0_laysFar nf T N I R x0 = some Io) (V : Iv D dA s0 s T N Z I L R H locs) (hl : lv_has ls 4 [(0, .ref x0)]) : W p l e { frames := 1, cells := 0, slots := 0, locals := 23 } s m args below meth c H locs 0 0 (MQ below (xQ D dA s0 none T N Z Io L R) args s 0 0 (fun q => s0 ≤ q)) (F0 m 0 ls []) := by
  have hx := X.1.1
  have hb := X.1.2.1
  unfold fX0_laysFar at hf
  refine lv_iconst (pc := 0) (v := (ii 0)) hx hb dX0_laysFar_0 (by decide) ?_
  refine lv_istore_n (pc := 1) (lv' := [(1, .int (ii 0)), (0, .ref x0)]) hx hb dX0_laysFar_1 rfl hl (by decide) rfl (fun ls hl => ?_)
  exact wX0_laysFar_b2 X hr nf hf V (lv_sub hl [1, 0] rfl)
theorem mX0_laysFar {nf : Nat} (l : Launch) (D : va_G) (dA : Nat → ClassId) (s0 : Nat) {T : xT} {N : xT} {Z : Nat} {I : xI} {L : xL} {R : xR} {x0 : Nat} {Io : xI} (hf : fX0_laysFar nf T N I R x0 = some Io) : XMet l D dA s0 yX0_laysFar (ws_ yX0_laysFar cX0_laysFar 4 (none)) (1) (23) [.ref x0] T N Z I L R none T N Z Io L R 0 0 :=
  x_start (own := RX0) rfl (by decide) (Nat.le_of_ble_eq_true rfl) (lv := [(0, .ref x0)]) rfl (fun p e s m below meth c ls X hr hini V hl => wX0_laysFar_e X hr hf V hl)
set_option maxHeartbeats 400000 in
set_option maxRecDepth 100000 in
theorem wX0_far_e {nf : Nat} {p : Program} {l : Launch} {e : Env} {s : State} {m : MethodId} {args : Array Value} {below : List Frame} {meth : Method} {c : Code} {D : va_G} {dA : Nat → ClassId} {s0 : Nat} {T : xT} {N : xT} {Z : Nat} {I : xI} {L : xL} {R : xR} {H : Heap} {locs : List Loc} {ls : Array Slot} {x0 : Nat} {x1 : Int32} {x2 : Int32} {ro : Int32} {Io : xI} (X : Cx D dA s0 p m c cX0_far 3 s args RX0 meth) (hr : meth.sig.returnType = (some .int)) (hf : fX0_far nf T N I R x0 x1 x2 = some (ro, Io)) (V : Iv D dA s0 s T N Z I L R H locs) (hl : lv_has ls 3 [(0, .ref x0), (1, .int x1), (2, .int x2)]) : W p l e { frames := 2, cells := 0, slots := 0, locals := 46 } s m args below meth c H locs 0 0 (MQ below (xQ D dA s0 (some (.int ro)) T N Z Io L R) args s 0 0 (fun q => s0 ≤ q)) (F0 m 0 ls []) := by
  have hx := X.1.1
  have hb := X.1.2.1
  unfold fX0_far at hf
  refine lv_iload_n (pc := 0) hx hb dX0_far_0 rfl (lv_at hl 1 rfl) ?_
  replace hf := bs hf; obtain ⟨r1, hk_2, hf⟩ := hf
  refine x_callS0 (pc := 1) (As := [.int x1]) (rest := []) X V (mX0_isCorner l D dA s0 hk_2) q561 q562 q119 q563 hsX0_isCorner ⟨Nat.le_of_ble_eq_true rfl, Nat.le_of_ble_eq_true rfl⟩ rfl hl.1 rfl (Nat.le_of_ble_eq_true rfl) dX0_far_1 ⟨Nat.zero_le _, Nat.zero_le _⟩ (fun H locs V => W.eq (g2 := F0 m 4 ls [.int r1]) rfl ?_)
  refine lv_if_eq (pc := 4) (tgt := 14) hx hb dX0_far_4 (by decide) (fun c3 => ?_) (fun c3 => ?_)
  · replace hf := if_t hf c3
    refine lv_iconst (pc := 14) (v := (-1 : Int32)) hx hb dX0_far_14 (by decide) ?_
    cases hf
    exact x_iret (pc := 15) X V hr dX0_far_15
  · replace hf := if_f hf c3
    refine lv_iload_n (pc := 7) hx hb dX0_far_7 rfl (lv_at hl 2 rfl) ?_
    replace hf := bs hf; obtain ⟨r4, hk_5, hf⟩ := hf
    refine x_callS0 (pc := 8) (As := [.int x2]) (rest := []) X V (mX0_isCorner l D dA s0 hk_5) q561 q562 q119 q563 hsX0_isCorner ⟨Nat.le_of_ble_eq_true rfl, Nat.le_of_ble_eq_true rfl⟩ rfl hl.1 rfl (Nat.le_of_ble_eq_true rfl) dX0_far_8 ⟨Nat.zero_le _, Nat.zero_le _⟩ (fun H locs V => W.eq (g2 := F0 m 11 ls [.int r4]) rfl ?_)
    refine lv_if_ne (pc := 11) (tgt := 16) hx hb dX0_far_11 (by decide) (fun c6 => ?_) (fun c6 => ?_)
    · replace hf := if_f hf c6
      refine lv_aload_n (pc := 16) hx hb dX0_far_16 rfl (lv_at hl 0 rfl) ?_
      replace hf := tg_s hf; obtain ⟨ht9, hf⟩ := hf
      replace hf := bs hf; obtain ⟨I7, hk_8, hf⟩ := hf
      refine x_callV0 (pc := 17) (As := []) (rest := []) X V (mX0_laysFar l D dA s0 hk_8) okX0 ht9 q1288 q1290 qs28 q119 q1291 ⟨rfl, hsX0_laysFar⟩ ⟨Nat.le_of_ble_eq_true rfl, Nat.le_of_ble_eq_true rfl⟩ rfl hl.1 rfl (Nat.le_of_ble_eq_true rfl) dX0_far_17 ⟨Nat.zero_le _, Nat.zero_le _⟩ (fun H locs V => W.eq (g2 := F0 m 20 ls []) rfl ?_)
      refine lv_aload_n (pc := 20) hx hb dX0_far_20 rfl (lv_at hl 0 rfl) ?_
      refine lv_iload_n (pc := 21) hx hb dX0_far_21 rfl (lv_at hl 1 rfl) ?_
      refine lv_iload_n (pc := 22) hx hb dX0_far_22 rfl (lv_at hl 2 rfl) ?_
      replace hf := bs hf; obtain ⟨r10, hk_11, hf⟩ := hf
      refine x_callV0 (pc := 23) (As := [.int x1, .int x2]) (rest := []) X V (mX0_farOf l D dA s0 hk_11) okX0 ht9 q1294 q1296 qs29 q119 q1297 ⟨rfl, hsX0_farOf⟩ ⟨Nat.le_of_ble_eq_true rfl, Nat.le_of_ble_eq_true rfl⟩ rfl hl.1 rfl (Nat.le_of_ble_eq_true rfl) dX0_far_23 ⟨Nat.zero_le _, Nat.zero_le _⟩ (fun H locs V => W.eq (g2 := F0 m 26 ls [.int r10]) rfl ?_)
      refine lv_ldcw (pc := 26) (v := (ii 1000000)) hx hb X.1.2.2.2.1 (X.1.2.2.2.2 _ q1292) dX0_far_26 ?_
      refine lv_icmp_lt (pc := 29) (tgt := 36) hx hb dX0_far_29 (by decide) (fun c12 => ?_) (fun c12 => ?_)
      · replace hf := if_t hf c12
        refine lv_aload_n (pc := 36) hx hb dX0_far_36 rfl (lv_at hl 0 rfl) ?_
        refine lv_iload_n (pc := 37) hx hb dX0_far_37 rfl (lv_at hl 1 rfl) ?_
        refine lv_iload_n (pc := 38) hx hb dX0_far_38 rfl (lv_at hl 2 rfl) ?_
        replace hf := bs hf; obtain ⟨r13, hk_14, hf⟩ := hf
        refine x_callV0 (pc := 39) (As := [.int x1, .int x2]) (rest := []) X V (mX0_farOf l D dA s0 hk_14) okX0 ht9 q1294 q1296 qs29 q119 q1297 ⟨rfl, hsX0_farOf⟩ ⟨Nat.le_of_ble_eq_true rfl, Nat.le_of_ble_eq_true rfl⟩ rfl hl.1 rfl (Nat.le_of_ble_eq_true rfl) dX0_far_39 ⟨Nat.zero_le _, Nat.zero_le _⟩ (fun H locs V => W.eq (g2 := F0 m 42 ls [.int r13]) rfl ?_)
        cases hf
        exact x_iret (pc := 42) X V hr dX0_far_42
      · replace hf := if_f hf c12
        refine lv_iconst (pc := 32) (v := (-1 : Int32)) hx hb dX0_far_32 (by decide) ?_
        refine lv_goto (pc := 33) (tgt := 42) hx hb dX0_far_33 (by decide) ?_
        cases hf
        exact x_iret (pc := 42) X V hr dX0_far_42
    · replace hf := if_t hf c6
      refine lv_iconst (pc := 14) (v := (-1 : Int32)) hx hb dX0_far_14 (by decide) ?_
      cases hf
      exact x_iret (pc := 15) X V hr dX0_far_15
theorem mX0_far {nf : Nat} (l : Launch) (D : va_G) (dA : Nat → ClassId) (s0 : Nat) {T : xT} {N : xT} {Z : Nat} {I : xI} {L : xL} {R : xR} {x0 : Nat} {x1 : Int32} {x2 : Int32} {ro : Int32} {Io : xI} (hf : fX0_far nf T N I R x0 x1 x2 = some (ro, Io)) : XMet l D dA s0 yX0_far (ws_ yX0_far cX0_far 3 ((some .int))) (2) (46) [.ref x0, .int x1, .int x2] T N Z I L R (some (.int ro)) T N Z Io L R 0 0 :=
  x_start (own := RX0) rfl (by decide) (Nat.le_of_ble_eq_true rfl) (lv := [(0, .ref x0), (1, .int x1), (2, .int x2)]) rfl (fun p e s m below meth c ls X hr hini V hl => wX0_far_e X hr hf V hl)
set_option maxHeartbeats 400000 in
set_option maxRecDepth 100000 in
theorem wX0_foundFrom_b13 {nf : Nat} {p : Program} {l : Launch} {e : Env} {s : State} {m : MethodId} {args : Array Value} {below : List Frame} {meth : Method} {c : Code} {D : va_G} {dA : Nat → ClassId} {s0 : Nat} {T : xT} {N : xT} {Z : Nat} {R : xR}  {ro : Int32} {Io : xI} {Lo : xL} (X : Cx D dA s0 p m c cX0_foundFrom 4 s args RX0 meth) (hr : meth.sig.returnType = (some .int))   (k : Nat) : ∀ {I : xI} {L : xL} {x0 : Nat} {x1 : Int32} {x2 : Int32} {x3 : Int32} {H : Heap} {locs : List Loc} {ls : Array Slot} , fX0_foundFrom_b13 nf T N R k I L x0 x1 x2 x3 = some (ro, Io, Lo) → Iv D dA s0 s T N Z I L R H locs → lv_has ls 4 [(0, .ref x0), (1, .int x1), (2, .int x2), (3, .int x3)] → W p l e { frames := 195, cells := 0, slots := 0, locals := 9452 } s m args below meth c H locs 0 0 (MQ below (xQ D dA s0 (some (.int ro)) T N Z Io Lo R) args s 0 0 (fun q => s0 ≤ q)) (F0 m 13 ls []) := by
  have hx := X.1.1
  have hb := X.1.2.1
  induction k with
  | zero =>
    intro I L x0 x1 x2 x3 H locs ls hf V hl
    exact absurd (show none = some _ from hf) (fun q => nomatch q)
  | succ k ih =>
    intro I L x0 x1 x2 x3 H locs ls hf V hl
    rw [fX0_foundFrom_b13] at hf
    refine lv_iload_n (pc := 13) hx hb dX0_foundFrom_13 rfl (lv_at hl 3 rfl) ?_
    refine lv_bipush (pc := 14) (v := (ii 60)) hx hb dX0_foundFrom_14 (by decide) ?_
    refine lv_icmp_gt (pc := 16) (tgt := 54) hx hb dX0_foundFrom_16 (by decide) (fun c1 => ?_) (fun c1 => ?_)
    · replace hf := if_t hf c1
      refine lv_ldcw (pc := 54) (v := (ii 1000000)) hx hb X.1.2.2.2.1 (X.1.2.2.2.2 _ q1292) dX0_foundFrom_54 ?_
      cases hf
      exact x_iret (pc := 57) X V hr dX0_foundFrom_57
    · replace hf := if_f hf c1
      refine lv_aload_n (pc := 19) hx hb dX0_foundFrom_19 rfl (lv_at hl 0 rfl) ?_
      refine lv_iload_n (pc := 20) hx hb dX0_foundFrom_20 rfl (lv_at hl 1 rfl) ?_
      refine lv_aload_n (pc := 21) hx hb dX0_foundFrom_21 rfl (lv_at hl 0 rfl) ?_
      replace hf := tg_s hf; obtain ⟨ht2, hf⟩ := hf
      replace hf := bs hf; obtain ⟨a3, ha3, hf⟩ := hf
      refine x_get (pc := 22) X V okX0 ht2 9 (by decide) q369 (v := va_rf (R x0 9)) rfl dX0_foundFrom_22 ?_
      refine x_topr ha3 ?_
      replace hf := tg_s hf; obtain ⟨ht4, hf⟩ := hf
      replace hf := bs hf; obtain ⟨a5, ha5, hf⟩ := hf
      refine x_getN (pc := 25) X V okX2 ht4 0 (by decide) q176 (v := va_rf (R a3 0)) rfl dX0_foundFrom_25 ?_
      refine x_topr ha5 ?_
      refine lv_iload_n (pc := 28) hx hb dX0_foundFrom_28 rfl (lv_at hl 2 rfl) ?_
      replace hf := rA_s hf; obtain ⟨j6, hjj6, htj6, hij6, hf⟩ := hf
      refine x_iald (pc := 29) X V htj6 hij6 hjj6 dX0_foundFrom_29 ?_
      replace hf := bs hf; obtain ⟨r7, hk_8, hf⟩ := hf
      refine x_callV0 (pc := 30) (As := [.int x1, .int (I a5 j6)]) (rest := []) X V (mX0_farOf l D dA s0 hk_8) okX0 ht2 q1294 q1296 qs29 q119 q1297 ⟨rfl, hsX0_farOf⟩ ⟨Nat.le_of_ble_eq_true rfl, Nat.le_of_ble_eq_true rfl⟩ rfl hl.1 rfl (Nat.le_of_ble_eq_true rfl) dX0_foundFrom_30 ⟨Nat.zero_le _, Nat.zero_le _⟩ (fun H locs V => W.eq (g2 := F0 m 33 ls [.int r7]) rfl ?_)
      refine lv_iload_n (pc := 33) hx hb dX0_foundFrom_33 rfl (lv_at hl 3 rfl) ?_
      refine lv_icmp_gt (pc := 34) (tgt := 39) hx hb dX0_foundFrom_34 (by decide) (fun c9 => ?_) (fun c9 => ?_)
      · replace hf := if_t hf c9
        refine lv_aload_n (pc := 39) hx hb dX0_foundFrom_39 rfl (lv_at hl 0 rfl) ?_
        refine lv_aload_n (pc := 40) hx hb dX0_foundFrom_40 rfl (lv_at hl 0 rfl) ?_
        refine x_get (pc := 41) X V okX0 ht2 9 (by decide) q369 (v := va_rf (R x0 9)) rfl dX0_foundFrom_41 ?_
        refine x_topr ha3 ?_
        replace hf := b3s hf; obtain ⟨r10, I11, L12, hk_13, hf⟩ := hf
        refine x_callV0 (pc := 44) (As := [.ref a3]) (rest := []) X V (mX0_passes l D dA s0 hk_13) okX0 ht2 q1268 q1270 qs27 q119 q1271 ⟨rfl, hsX0_passes⟩ ⟨Nat.le_of_ble_eq_true rfl, Nat.le_of_ble_eq_true rfl⟩ rfl hl.1 rfl (Nat.le_of_ble_eq_true rfl) dX0_foundFrom_44 ⟨Nat.zero_le _, Nat.zero_le _⟩ (fun H locs V => W.eq (g2 := F0 m 47 ls [.int r10]) rfl ?_)
        refine lv_pop (pc := 47) hx hb dX0_foundFrom_47 rfl ?_
        replace hf := nm_s hf; obtain ⟨u14, hu14, hf⟩ := hf
        refine lv_iinc (pc := 48) (v := u14) (lv' := [(3, .int u14), (0, .ref x0), (1, .int x1), (2, .int x2)]) hx hb dX0_foundFrom_48 hl (k := 3) rfl (by rw [hu14]; rfl) (by decide) rfl (fun ls hl => ?_)
        refine lv_goto (pc := 51) (tgt := 13) hx hb dX0_foundFrom_51 (by decide) ?_
        exact ih hf V (lv_sub hl [1, 2, 3, 0] rfl)
      · replace hf := if_f hf c9
        refine lv_iload_n (pc := 37) hx hb dX0_foundFrom_37 rfl (lv_at hl 3 rfl) ?_
        cases hf
        exact x_iret (pc := 38) X V hr dX0_foundFrom_38
set_option maxHeartbeats 400000 in
set_option maxRecDepth 100000 in
theorem wX0_foundFrom_e {nf : Nat} {p : Program} {l : Launch} {e : Env} {s : State} {m : MethodId} {args : Array Value} {below : List Frame} {meth : Method} {c : Code} {D : va_G} {dA : Nat → ClassId} {s0 : Nat} {T : xT} {N : xT} {Z : Nat} {I : xI} {L : xL} {R : xR} {H : Heap} {locs : List Loc} {ls : Array Slot} {x0 : Nat} {x1 : Int32} {x2 : Int32} {ro : Int32} {Io : xI} {Lo : xL} (X : Cx D dA s0 p m c cX0_foundFrom 4 s args RX0 meth) (hr : meth.sig.returnType = (some .int)) (hf : fX0_foundFrom nf T N I L R x0 x1 x2 = some (ro, Io, Lo)) (V : Iv D dA s0 s T N Z I L R H locs) (hl : lv_has ls 4 [(0, .ref x0), (1, .int x1), (2, .int x2)]) : W p l e { frames := 195, cells := 0, slots := 0, locals := 9452 } s m args below meth c H locs 0 0 (MQ below (xQ D dA s0 (some (.int ro)) T N Z Io Lo R) args s 0 0 (fun q => s0 ≤ q)) (F0 m 0 ls []) := by
  have hx := X.1.1
  have hb := X.1.2.1
  unfold fX0_foundFrom at hf
  refine lv_aload_n (pc := 0) hx hb dX0_foundFrom_0 rfl (lv_at hl 0 rfl) ?_
  replace hf := tg_s hf; obtain ⟨ht1, hf⟩ := hf
  replace hf := bs hf; obtain ⟨a2, ha2, hf⟩ := hf
  refine x_get (pc := 1) X V okX0 ht1 9 (by decide) q369 (v := va_rf (R x0 9)) rfl dX0_foundFrom_1 ?_
  refine x_topr ha2 ?_
  refine lv_aload_n (pc := 4) hx hb dX0_foundFrom_4 rfl (lv_at hl 0 rfl) ?_
  replace hf := bs hf; obtain ⟨r3, hk_4, hf⟩ := hf
  refine x_callV0 (pc := 5) (As := []) (rest := [.ref a2]) X V (mX0_table l D dA s0 hk_4) okX0 ht1 q568 q570 qs6 q119 q571 ⟨rfl, hsX0_table⟩ ⟨Nat.le_of_ble_eq_true rfl, Nat.le_of_ble_eq_true rfl⟩ rfl hl.1 rfl (Nat.le_of_ble_eq_true rfl) dX0_foundFrom_5 ⟨Nat.zero_le _, Nat.zero_le _⟩ (fun H locs V => W.eq (g2 := F0 m 8 ls [.ref r3, .ref a2]) rfl ?_)
  replace hf := tg_s hf; obtain ⟨ht7, hf⟩ := hf
  replace hf := bs hf; obtain ⟨I5, hk_6, hf⟩ := hf
  refine x_callV0 (pc := 8) (As := [.ref r3]) (rest := []) X V (mX2_takes l D dA s0 hk_6) okX2 ht7 q1227 q461 q462 q121 q463 ⟨rfl, hsX2_takes⟩ ⟨Nat.le_of_ble_eq_true rfl, Nat.le_of_ble_eq_true rfl⟩ rfl hl.1 rfl (Nat.le_of_ble_eq_true rfl) dX0_foundFrom_8 ⟨Nat.zero_le _, Nat.zero_le _⟩ (fun H locs V => W.eq (g2 := F0 m 11 ls []) rfl ?_)
  refine lv_iconst (pc := 11) (v := (ii 0)) hx hb dX0_foundFrom_11 (by decide) ?_
  refine lv_istore_n (pc := 12) (lv' := [(3, .int (ii 0)), (0, .ref x0), (1, .int x1), (2, .int x2)]) hx hb dX0_foundFrom_12 rfl hl (by decide) rfl (fun ls hl => ?_)
  exact wX0_foundFrom_b13 X hr nf hf V (lv_sub hl [1, 2, 3, 0] rfl)
theorem mX0_foundFrom {nf : Nat} (l : Launch) (D : va_G) (dA : Nat → ClassId) (s0 : Nat) {T : xT} {N : xT} {Z : Nat} {I : xI} {L : xL} {R : xR} {x0 : Nat} {x1 : Int32} {x2 : Int32} {ro : Int32} {Io : xI} {Lo : xL} (hf : fX0_foundFrom nf T N I L R x0 x1 x2 = some (ro, Io, Lo)) : XMet l D dA s0 yX0_foundFrom (ws_ yX0_foundFrom cX0_foundFrom 4 ((some .int))) (195) (9452) [.ref x0, .int x1, .int x2] T N Z I L R (some (.int ro)) T N Z Io Lo R 0 0 :=
  x_start (own := RX0) rfl (by decide) (Nat.le_of_ble_eq_true rfl) (lv := [(0, .ref x0), (1, .int x1), (2, .int x2)]) rfl (fun p e s m below meth c ls X hr hini V hl => wX0_foundFrom_e X hr hf V hl)
set_option maxHeartbeats 400000 in
set_option maxRecDepth 100000 in
theorem wX0_found_e {nf : Nat} {p : Program} {l : Launch} {e : Env} {s : State} {m : MethodId} {args : Array Value} {below : List Frame} {meth : Method} {c : Code} {D : va_G} {dA : Nat → ClassId} {s0 : Nat} {T : xT} {N : xT} {Z : Nat} {I : xI} {L : xL} {R : xR} {H : Heap} {locs : List Loc} {ls : Array Slot} {x0 : Nat} {x1 : Int32} {x2 : Int32} {ro : Int32} {Io : xI} {Lo : xL} (X : Cx D dA s0 p m c cX0_found 4 s args RX0 meth) (hr : meth.sig.returnType = (some .int)) (hf : fX0_found nf T N I L R x0 x1 x2 = some (ro, Io, Lo)) (V : Iv D dA s0 s T N Z I L R H locs) (hl : lv_has ls 4 [(0, .ref x0), (1, .int x1), (2, .int x2)]) : W p l e { frames := 196, cells := 0, slots := 0, locals := 9475 } s m args below meth c H locs 0 0 (MQ below (xQ D dA s0 (some (.int ro)) T N Z Io Lo R) args s 0 0 (fun q => s0 ≤ q)) (F0 m 0 ls []) := by
  have hx := X.1.1
  have hb := X.1.2.1
  unfold fX0_found at hf
  refine lv_iload_n (pc := 0) hx hb dX0_found_0 rfl (lv_at hl 1 rfl) ?_
  replace hf := bs hf; obtain ⟨r1, hk_2, hf⟩ := hf
  refine x_callS0 (pc := 1) (As := [.int x1]) (rest := []) X V (mX0_isCorner l D dA s0 hk_2) q561 q562 q119 q563 hsX0_isCorner ⟨Nat.le_of_ble_eq_true rfl, Nat.le_of_ble_eq_true rfl⟩ rfl hl.1 rfl (Nat.le_of_ble_eq_true rfl) dX0_found_1 ⟨Nat.zero_le _, Nat.zero_le _⟩ (fun H locs V => W.eq (g2 := F0 m 4 ls [.int r1]) rfl ?_)
  refine lv_if_eq (pc := 4) (tgt := 15) hx hb dX0_found_4 (by decide) (fun c3 => ?_) (fun c3 => ?_)
  · replace hf := if_t hf c3
    refine lv_iconst (pc := 15) (v := (-1 : Int32)) hx hb dX0_found_15 (by decide) ?_
    cases hf
    exact x_iret (pc := 16) X V hr dX0_found_16
  · replace hf := if_f hf c3
    refine lv_aload_n (pc := 7) hx hb dX0_found_7 rfl (lv_at hl 0 rfl) ?_
    refine lv_iload_n (pc := 8) hx hb dX0_found_8 rfl (lv_at hl 2 rfl) ?_
    replace hf := tg_s hf; obtain ⟨ht6, hf⟩ := hf
    replace hf := bs hf; obtain ⟨r4, hk_5, hf⟩ := hf
    refine x_callV0 (pc := 9) (As := [.int x2]) (rest := []) X V (mX0_isChild l D dA s0 hk_5) okX0 ht6 q588 q590 qs8 q119 q591 ⟨rfl, hsX0_isChild⟩ ⟨Nat.le_of_ble_eq_true rfl, Nat.le_of_ble_eq_true rfl⟩ rfl hl.1 rfl (Nat.le_of_ble_eq_true rfl) dX0_found_9 ⟨Nat.zero_le _, Nat.zero_le _⟩ (fun H locs V => W.eq (g2 := F0 m 12 ls [.int r4]) rfl ?_)
    refine lv_if_ne (pc := 12) (tgt := 17) hx hb dX0_found_12 (by decide) (fun c7 => ?_) (fun c7 => ?_)
    · replace hf := if_f hf c7
      refine lv_aload_n (pc := 17) hx hb dX0_found_17 rfl (lv_at hl 0 rfl) ?_
      replace hf := bs hf; obtain ⟨I8, hk_9, hf⟩ := hf
      refine x_callV0 (pc := 18) (As := []) (rest := []) X V (mX0_laysFar l D dA s0 hk_9) okX0 ht6 q1288 q1290 qs28 q119 q1291 ⟨rfl, hsX0_laysFar⟩ ⟨Nat.le_of_ble_eq_true rfl, Nat.le_of_ble_eq_true rfl⟩ rfl hl.1 rfl (Nat.le_of_ble_eq_true rfl) dX0_found_18 ⟨Nat.zero_le _, Nat.zero_le _⟩ (fun H locs V => W.eq (g2 := F0 m 21 ls []) rfl ?_)
      refine lv_aload_n (pc := 21) hx hb dX0_found_21 rfl (lv_at hl 0 rfl) ?_
      refine lv_iload_n (pc := 22) hx hb dX0_found_22 rfl (lv_at hl 1 rfl) ?_
      refine lv_iload_n (pc := 23) hx hb dX0_found_23 rfl (lv_at hl 2 rfl) ?_
      replace hf := b3s hf; obtain ⟨r10, I11, L12, hk_13, hf⟩ := hf
      refine x_callV0 (pc := 24) (As := [.int x1, .int x2]) (rest := []) X V (mX0_foundFrom l D dA s0 hk_13) okX0 ht6 q1302 q1304 qs30 q119 q1305 ⟨rfl, hsX0_foundFrom⟩ ⟨Nat.le_of_ble_eq_true rfl, Nat.le_of_ble_eq_true rfl⟩ rfl hl.1 rfl (Nat.le_of_ble_eq_true rfl) dX0_found_24 ⟨Nat.zero_le _, Nat.zero_le _⟩ (fun H locs V => W.eq (g2 := F0 m 27 ls [.int r10]) rfl ?_)
      refine lv_istore_n (pc := 27) (lv' := [(3, .int r10), (0, .ref x0), (1, .int x1), (2, .int x2)]) hx hb dX0_found_27 rfl hl (by decide) rfl (fun ls hl => ?_)
      refine lv_iload_n (pc := 28) hx hb dX0_found_28 rfl (lv_at hl 0 rfl) ?_
      refine lv_ldcw (pc := 29) (v := (ii 1000000)) hx hb X.1.2.2.2.1 (X.1.2.2.2.2 _ q1292) dX0_found_29 ?_
      refine lv_icmp_ne (pc := 32) (tgt := 39) hx hb dX0_found_32 (by decide) (fun c14 => ?_) (fun c14 => ?_)
      · replace hf := if_f hf c14
        refine lv_iload_n (pc := 39) hx hb dX0_found_39 rfl (lv_at hl 0 rfl) ?_
        cases hf
        exact x_iret (pc := 40) X V hr dX0_found_40
      · replace hf := if_t hf c14
        refine lv_iconst (pc := 35) (v := (-1 : Int32)) hx hb dX0_found_35 (by decide) ?_
        refine lv_goto (pc := 36) (tgt := 40) hx hb dX0_found_36 (by decide) ?_
        cases hf
        exact x_iret (pc := 40) X V hr dX0_found_40
    · replace hf := if_t hf c7
      refine lv_iconst (pc := 15) (v := (-1 : Int32)) hx hb dX0_found_15 (by decide) ?_
      cases hf
      exact x_iret (pc := 16) X V hr dX0_found_16
theorem mX0_found {nf : Nat} (l : Launch) (D : va_G) (dA : Nat → ClassId) (s0 : Nat) {T : xT} {N : xT} {Z : Nat} {I : xI} {L : xL} {R : xR} {x0 : Nat} {x1 : Int32} {x2 : Int32} {ro : Int32} {Io : xI} {Lo : xL} (hf : fX0_found nf T N I L R x0 x1 x2 = some (ro, Io, Lo)) : XMet l D dA s0 yX0_found (ws_ yX0_found cX0_found 4 ((some .int))) (196) (9475) [.ref x0, .int x1, .int x2] T N Z I L R (some (.int ro)) T N Z Io Lo R 0 0 :=
  x_start (own := RX0) rfl (by decide) (Nat.le_of_ble_eq_true rfl) (lv := [(0, .ref x0), (1, .int x1), (2, .int x2)]) rfl (fun p e s m below meth c ls X hr hini V hl => wX0_found_e X hr hf V hl)
set_option maxHeartbeats 400000 in
set_option maxRecDepth 100000 in
theorem wX0_post_b47 {nf : Nat} {p : Program} {l : Launch} {e : Env} {s : State} {m : MethodId} {args : Array Value} {below : List Frame} {meth : Method} {c : Code} {D : va_G} {dA : Nat → ClassId} {s0 : Nat} {T : xT} {N : xT} {Z : Nat} {R : xR} {kk34 : xI → xL → Nat → Int32 → Int32 → Int32 → Int32 → Option (Int32 × xI × xL)} {ro : Int32} {Io : xI} {Lo : xL} (X : Cx D dA s0 p m c cX0_post 7 s args RX0 meth) (hr : meth.sig.returnType = (some .int)) (hk34 : ∀ {I : xI} {L : xL} {x0 : Nat} {x1 : Int32} {x2 : Int32} {x3 : Int32} {x4 : Int32} {H : Heap} {locs : List Loc} {ls : Array Slot} , kk34 I L x0 x1 x2 x3 x4 = some (ro, Io, Lo) → Iv D dA s0 s T N Z I L R H locs → lv_has ls 7 [(0, .ref x0), (1, .int x1), (2, .int x2), (3, .int x3), (4, .int x4)] → W p l e { frames := 196, cells := 0, slots := 0, locals := 9475 } s m args below meth c H locs 0 0 (MQ below (xQ D dA s0 (some (.int ro)) T N Z Io Lo R) args s 0 0 (fun q => s0 ≤ q)) (F0 m 34 ls []))  (k : Nat) : ∀ {I : xI} {L : xL} {x0 : Nat} {x1 : Int32} {x2 : Int32} {x3 : Int32} {x4 : Int32} {x5 : Int32} {x6 : Int32} {H : Heap} {locs : List Loc} {ls : Array Slot} , fX0_post_b47 nf kk34 T N R k I L x0 x1 x2 x3 x4 x5 x6 = some (ro, Io, Lo) → Iv D dA s0 s T N Z I L R H locs → lv_has ls 7 [(0, .ref x0), (1, .int x1), (2, .int x2), (3, .int x3), (4, .int x4), (5, .int x5), (6, .int x6)] → W p l e { frames := 196, cells := 0, slots := 0, locals := 9475 } s m args below meth c H locs 0 0 (MQ below (xQ D dA s0 (some (.int ro)) T N Z Io Lo R) args s 0 0 (fun q => s0 ≤ q)) (F0 m 47 ls []) := by
  have hx := X.1.1
  have hb := X.1.2.1
  induction k with
  | zero =>
    intro I L x0 x1 x2 x3 x4 x5 x6 H locs ls hf V hl
    exact absurd (show none = some _ from hf) (fun q => nomatch q)
  | succ k ih =>
    intro I L x0 x1 x2 x3 x4 x5 x6 H locs ls hf V hl
    rw [fX0_post_b47] at hf
    refine lv_iload (pc := 47) hx hb dX0_post_47 (lv_at hl 6 rfl) ?_
    refine lv_aload_n (pc := 49) hx hb dX0_post_49 rfl (lv_at hl 0 rfl) ?_
    replace hf := tg_s hf; obtain ⟨ht1, hf⟩ := hf
    replace hf := bs hf; obtain ⟨a2, ha2, hf⟩ := hf
    refine x_get (pc := 50) X V okX0 ht1 2 (by decide) q362 (v := va_rf (R x0 2)) rfl dX0_post_50 ?_
    refine x_topr ha2 ?_
    replace hf := tg_s hf; obtain ⟨ht3, hf⟩ := hf
    refine x_getN (pc := 53) X V okX1 ht3 9 (by decide) q240 (v := .int (I a2 9)) rfl dX0_post_53 ?_
    refine lv_icmp_ge (pc := 56) (tgt := 80) hx hb dX0_post_56 (by decide) (fun c4 => ?_) (fun c4 => ?_)
    · replace hf := if_t hf c4
      refine lv_iload (pc := 80) hx hb dX0_post_80 (lv_at hl 5 rfl) ?_
      refine lv_iload_n (pc := 82) hx hb dX0_post_82 rfl (lv_at hl 2 rfl) ?_
      refine lv_icmp_lt (pc := 83) (tgt := 89) hx hb dX0_post_83 (by decide) (fun c5 => ?_) (fun c5 => ?_)
      · replace hf := if_t hf c5
        refine lv_iload (pc := 89) hx hb dX0_post_89 (lv_at hl 5 rfl) ?_
        refine lv_istore_n (pc := 91) (lv' := [(2, .int x5), (0, .ref x0), (1, .int x1), (3, .int x3), (4, .int x4), (5, .int x5), (6, .int x6)]) hx hb dX0_post_91 rfl hl (by decide) rfl (fun ls hl => ?_)
        refine lv_iload (pc := 92) hx hb dX0_post_92 (lv_at hl 4 rfl) ?_
        refine lv_istore_n (pc := 94) (lv' := [(3, .int x4), (2, .int x5), (0, .ref x0), (1, .int x1), (4, .int x4), (5, .int x5), (6, .int x6)]) hx hb dX0_post_94 rfl hl (by decide) rfl (fun ls hl => ?_)
        replace hf := nm_s hf; obtain ⟨u6, hu6, hf⟩ := hf
        refine lv_iinc (pc := 95) (v := u6) (lv' := [(4, .int u6), (3, .int x4), (2, .int x5), (0, .ref x0), (1, .int x1), (5, .int x5), (6, .int x6)]) hx hb dX0_post_95 hl (k := 4) rfl (by rw [hu6]; rfl) (by decide) rfl (fun ls hl => ?_)
        refine lv_goto (pc := 98) (tgt := 34) hx hb dX0_post_98 (by decide) ?_
        exact hk34 hf V (lv_sub hl [3, 4, 2, 1, 0] rfl)
      · replace hf := if_f hf c5
        refine lv_goto (pc := 86) (tgt := 95) hx hb dX0_post_86 (by decide) ?_
        replace hf := nm_s hf; obtain ⟨u7, hu7, hf⟩ := hf
        refine lv_iinc (pc := 95) (v := u7) (lv' := [(4, .int u7), (0, .ref x0), (1, .int x1), (2, .int x2), (3, .int x3), (5, .int x5), (6, .int x6)]) hx hb dX0_post_95 hl (k := 4) rfl (by rw [hu7]; rfl) (by decide) rfl (fun ls hl => ?_)
        refine lv_goto (pc := 98) (tgt := 34) hx hb dX0_post_98 (by decide) ?_
        exact hk34 hf V (lv_sub hl [1, 2, 3, 4, 0] rfl)
    · replace hf := if_f hf c4
      refine lv_iload (pc := 59) hx hb dX0_post_59 (lv_at hl 5 rfl) ?_
      refine lv_aload_n (pc := 61) hx hb dX0_post_61 rfl (lv_at hl 0 rfl) ?_
      refine lv_iload (pc := 62) hx hb dX0_post_62 (lv_at hl 4 rfl) ?_
      refine lv_iload (pc := 64) hx hb dX0_post_64 (lv_at hl 6 rfl) ?_
      replace hf := b3s hf; obtain ⟨r8, I9, L10, hk_11, hf⟩ := hf
      refine x_callV0 (pc := 66) (As := [.int x4, .int x6]) (rest := [.int x5]) X V (mX0_foundFrom l D dA s0 hk_11) okX0 ht1 q1302 q1304 qs30 q119 q1305 ⟨rfl, hsX0_foundFrom⟩ ⟨Nat.le_of_ble_eq_true rfl, Nat.le_of_ble_eq_true rfl⟩ rfl hl.1 rfl (Nat.le_of_ble_eq_true rfl) dX0_post_66 ⟨Nat.zero_le _, Nat.zero_le _⟩ (fun H locs V => W.eq (g2 := F0 m 69 ls [.int r8, .int x5]) rfl ?_)
      refine va_mmax (pc := 69) hx hb (X.1.2.2.1.trans hl.1.symm) X.1.2.2.2.1 (X.1.2.2.2.2 _ q1310) (X.1.2.2.2.2 _ q534) (X.1.2.2.2.2 _ q132) (X.1.2.2.2.2 _ q535) (Nat.le_of_ble_eq_true rfl) (Nat.le_of_ble_eq_true rfl) (Nat.zero_le _) (Nat.zero_le _) dX0_post_69 ?_
      replace hf := nm_s hf; obtain ⟨u12, hu12, hf⟩ := hf
      refine x_topi hu12 ?_
      refine lv_istore (pc := 72) (lv' := [(5, .int u12), (0, .ref x0), (1, .int x1), (2, .int x2), (3, .int x3), (4, .int x4), (6, .int x6)]) hx hb dX0_post_72 hl (by decide) rfl (fun ls hl => ?_)
      replace hf := nm_s hf; obtain ⟨u13, hu13, hf⟩ := hf
      refine lv_iinc (pc := 74) (v := u13) (lv' := [(6, .int u13), (5, .int u12), (0, .ref x0), (1, .int x1), (2, .int x2), (3, .int x3), (4, .int x4)]) hx hb dX0_post_74 hl (k := 6) rfl (by rw [hu13]; rfl) (by decide) rfl (fun ls hl => ?_)
      refine lv_goto (pc := 77) (tgt := 47) hx hb dX0_post_77 (by decide) ?_
      exact ih hf V (lv_sub hl [2, 3, 4, 5, 6, 1, 0] rfl)
set_option maxHeartbeats 400000 in
set_option maxRecDepth 100000 in
theorem wX0_post_b34 {nf : Nat} {p : Program} {l : Launch} {e : Env} {s : State} {m : MethodId} {args : Array Value} {below : List Frame} {meth : Method} {c : Code} {D : va_G} {dA : Nat → ClassId} {s0 : Nat} {T : xT} {N : xT} {Z : Nat} {R : xR}  {ro : Int32} {Io : xI} {Lo : xL} (X : Cx D dA s0 p m c cX0_post 7 s args RX0 meth) (hr : meth.sig.returnType = (some .int))   (k : Nat) : ∀ {I : xI} {L : xL} {x0 : Nat} {x1 : Int32} {x2 : Int32} {x3 : Int32} {x4 : Int32} {H : Heap} {locs : List Loc} {ls : Array Slot} , fX0_post_b34 nf T N R k I L x0 x1 x2 x3 x4 = some (ro, Io, Lo) → Iv D dA s0 s T N Z I L R H locs → lv_has ls 7 [(0, .ref x0), (1, .int x1), (2, .int x2), (3, .int x3), (4, .int x4)] → W p l e { frames := 196, cells := 0, slots := 0, locals := 9475 } s m args below meth c H locs 0 0 (MQ below (xQ D dA s0 (some (.int ro)) T N Z Io Lo R) args s 0 0 (fun q => s0 ≤ q)) (F0 m 34 ls []) := by
  have hx := X.1.1
  have hb := X.1.2.1
  induction k with
  | zero =>
    intro I L x0 x1 x2 x3 x4 H locs ls hf V hl
    exact absurd (show none = some _ from hf) (fun q => nomatch q)
  | succ k ih =>
    intro I L x0 x1 x2 x3 x4 H locs ls hf V hl
    rw [fX0_post_b34] at hf
    refine lv_iload (pc := 34) hx hb dX0_post_34 (lv_at hl 4 rfl) ?_
    refine lv_bipush (pc := 36) (v := (ii 8)) hx hb dX0_post_36 (by decide) ?_
    refine lv_icmp_ge (pc := 38) (tgt := 101) hx hb dX0_post_38 (by decide) (fun c1 => ?_) (fun c1 => ?_)
    · replace hf := if_t hf c1
      refine lv_iload_n (pc := 101) hx hb dX0_post_101 rfl (lv_at hl 3 rfl) ?_
      refine lv_iconst (pc := 102) (v := (-1 : Int32)) hx hb dX0_post_102 (by decide) ?_
      refine lv_icmp_eq (pc := 103) (tgt := 110) hx hb dX0_post_103 (by decide) (fun c2 => ?_) (fun c2 => ?_)
      · replace hf := if_t hf c2
        refine lv_iload_n (pc := 110) hx hb dX0_post_110 rfl (lv_at hl 3 rfl) ?_
        refine lv_goto (pc := 111) (tgt := 115) hx hb dX0_post_111 (by decide) ?_
        cases hf
        exact x_iret (pc := 115) X V hr dX0_post_115
      · replace hf := if_f hf c2
        refine lv_iload_n (pc := 106) hx hb dX0_post_106 rfl (lv_at hl 1 rfl) ?_
        refine lv_if_ne (pc := 107) (tgt := 114) hx hb dX0_post_107 (by decide) (fun c3 => ?_) (fun c3 => ?_)
        · replace hf := if_f hf c3
          refine lv_iload_n (pc := 114) hx hb dX0_post_114 rfl (lv_at hl 2 rfl) ?_
          cases hf
          exact x_iret (pc := 115) X V hr dX0_post_115
        · replace hf := if_t hf c3
          refine lv_iload_n (pc := 110) hx hb dX0_post_110 rfl (lv_at hl 3 rfl) ?_
          refine lv_goto (pc := 111) (tgt := 115) hx hb dX0_post_111 (by decide) ?_
          cases hf
          exact x_iret (pc := 115) X V hr dX0_post_115
    · replace hf := if_f hf c1
      refine lv_iconst (pc := 41) (v := (ii 0)) hx hb dX0_post_41 (by decide) ?_
      refine lv_istore (pc := 42) (lv' := [(5, .int (ii 0)), (0, .ref x0), (1, .int x1), (2, .int x2), (3, .int x3), (4, .int x4)]) hx hb dX0_post_42 hl (by decide) rfl (fun ls hl => ?_)
      refine lv_iconst (pc := 44) (v := (ii 0)) hx hb dX0_post_44 (by decide) ?_
      refine lv_istore (pc := 45) (lv' := [(6, .int (ii 0)), (5, .int (ii 0)), (0, .ref x0), (1, .int x1), (2, .int x2), (3, .int x3), (4, .int x4)]) hx hb dX0_post_45 hl (by decide) rfl (fun ls hl => ?_)
      exact wX0_post_b47 X hr ih nf hf V (lv_sub hl [2, 3, 4, 5, 6, 1, 0] rfl)
set_option maxHeartbeats 400000 in
set_option maxRecDepth 100000 in
theorem wX0_post_e {nf : Nat} {p : Program} {l : Launch} {e : Env} {s : State} {m : MethodId} {args : Array Value} {below : List Frame} {meth : Method} {c : Code} {D : va_G} {dA : Nat → ClassId} {s0 : Nat} {T : xT} {N : xT} {Z : Nat} {I : xI} {L : xL} {R : xR} {H : Heap} {locs : List Loc} {ls : Array Slot} {x0 : Nat} {x1 : Int32} {ro : Int32} {Io : xI} {Lo : xL} (X : Cx D dA s0 p m c cX0_post 7 s args RX0 meth) (hr : meth.sig.returnType = (some .int)) (hf : fX0_post nf T N I L R x0 x1 = some (ro, Io, Lo)) (V : Iv D dA s0 s T N Z I L R H locs) (hl : lv_has ls 7 [(0, .ref x0), (1, .int x1)]) : W p l e { frames := 196, cells := 0, slots := 0, locals := 9475 } s m args below meth c H locs 0 0 (MQ below (xQ D dA s0 (some (.int ro)) T N Z Io Lo R) args s 0 0 (fun q => s0 ≤ q)) (F0 m 0 ls []) := by
  have hx := X.1.1
  have hb := X.1.2.1
  unfold fX0_post at hf
  refine lv_iload_n (pc := 0) hx hb dX0_post_0 rfl (lv_at hl 1 rfl) ?_
  refine lv_iconst (pc := 1) (v := (ii 0)) hx hb dX0_post_1 (by decide) ?_
  refine lv_iconst (pc := 2) (v := (ii 1)) hx hb dX0_post_2 (by decide) ?_
  replace hf := bs hf; obtain ⟨r1, hk_2, hf⟩ := hf
  refine x_callS0 (pc := 3) (As := [.int x1, .int (ii 0), .int (ii 1)]) (rest := []) X V (mX0_in l D dA s0 hk_2) q449 q450 q119 q451 hsX0_in ⟨Nat.le_of_ble_eq_true rfl, Nat.le_of_ble_eq_true rfl⟩ rfl hl.1 rfl (Nat.le_of_ble_eq_true rfl) dX0_post_3 ⟨Nat.zero_le _, Nat.zero_le _⟩ (fun H locs V => W.eq (g2 := F0 m 6 ls [.int r1]) rfl ?_)
  refine lv_if_eq (pc := 6) (tgt := 19) hx hb dX0_post_6 (by decide) (fun c3 => ?_) (fun c3 => ?_)
  · replace hf := if_t hf c3
    refine lv_iconst (pc := 19) (v := (-1 : Int32)) hx hb dX0_post_19 (by decide) ?_
    cases hf
    exact x_iret (pc := 20) X V hr dX0_post_20
  · replace hf := if_f hf c3
    refine lv_aload_n (pc := 9) hx hb dX0_post_9 rfl (lv_at hl 0 rfl) ?_
    replace hf := tg_s hf; obtain ⟨ht4, hf⟩ := hf
    replace hf := bs hf; obtain ⟨a5, ha5, hf⟩ := hf
    refine x_get (pc := 10) X V okX0 ht4 2 (by decide) q362 (v := va_rf (R x0 2)) rfl dX0_post_10 ?_
    refine x_topr ha5 ?_
    replace hf := tg_s hf; obtain ⟨ht6, hf⟩ := hf
    refine x_getN (pc := 13) X V okX1 ht6 9 (by decide) q240 (v := .int (I a5 9)) rfl dX0_post_13 ?_
    refine lv_if_ne (pc := 16) (tgt := 21) hx hb dX0_post_16 (by decide) (fun c7 => ?_) (fun c7 => ?_)
    · replace hf := if_f hf c7
      refine lv_aload_n (pc := 21) hx hb dX0_post_21 rfl (lv_at hl 0 rfl) ?_
      replace hf := bs hf; obtain ⟨I8, hk_9, hf⟩ := hf
      refine x_callV0 (pc := 22) (As := []) (rest := []) X V (mX0_laysFar l D dA s0 hk_9) okX0 ht4 q1288 q1290 qs28 q119 q1291 ⟨rfl, hsX0_laysFar⟩ ⟨Nat.le_of_ble_eq_true rfl, Nat.le_of_ble_eq_true rfl⟩ rfl hl.1 rfl (Nat.le_of_ble_eq_true rfl) dX0_post_22 ⟨Nat.zero_le _, Nat.zero_le _⟩ (fun H locs V => W.eq (g2 := F0 m 25 ls []) rfl ?_)
      refine lv_ldcw (pc := 25) (v := (ii 1000000)) hx hb X.1.2.2.2.1 (X.1.2.2.2.2 _ q1292) dX0_post_25 ?_
      refine lv_istore_n (pc := 28) (lv' := [(2, .int (ii 1000000)), (0, .ref x0), (1, .int x1)]) hx hb dX0_post_28 rfl hl (by decide) rfl (fun ls hl => ?_)
      refine lv_iconst (pc := 29) (v := (-1 : Int32)) hx hb dX0_post_29 (by decide) ?_
      refine lv_istore_n (pc := 30) (lv' := [(3, .int (-1 : Int32)), (2, .int (ii 1000000)), (0, .ref x0), (1, .int x1)]) hx hb dX0_post_30 rfl hl (by decide) rfl (fun ls hl => ?_)
      refine lv_iconst (pc := 31) (v := (ii 0)) hx hb dX0_post_31 (by decide) ?_
      refine lv_istore (pc := 32) (lv' := [(4, .int (ii 0)), (3, .int (-1 : Int32)), (2, .int (ii 1000000)), (0, .ref x0), (1, .int x1)]) hx hb dX0_post_32 hl (by decide) rfl (fun ls hl => ?_)
      exact wX0_post_b34 X hr nf hf V (lv_sub hl [3, 4, 2, 1, 0] rfl)
    · replace hf := if_t hf c7
      refine lv_iconst (pc := 19) (v := (-1 : Int32)) hx hb dX0_post_19 (by decide) ?_
      cases hf
      exact x_iret (pc := 20) X V hr dX0_post_20
theorem mX0_post {nf : Nat} (l : Launch) (D : va_G) (dA : Nat → ClassId) (s0 : Nat) {T : xT} {N : xT} {Z : Nat} {I : xI} {L : xL} {R : xR} {x0 : Nat} {x1 : Int32} {ro : Int32} {Io : xI} {Lo : xL} (hf : fX0_post nf T N I L R x0 x1 = some (ro, Io, Lo)) : XMet l D dA s0 yX0_post (ws_ yX0_post cX0_post 7 ((some .int))) (196) (9475) [.ref x0, .int x1] T N Z I L R (some (.int ro)) T N Z Io Lo R 0 0 :=
  x_start (own := RX0) rfl (by decide) (Nat.le_of_ble_eq_true rfl) (lv := [(0, .ref x0), (1, .int x1)]) rfl (fun p e s m below meth c ls X hr hini V hl => wX0_post_e X hr hf V hl)
