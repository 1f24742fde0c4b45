set_option maxHeartbeats 400000 in
set_option maxRecDepth 100000 in
theorem wX0_isCorner_e {p : Program} {l : Launch} {e : Env} {s : State} {m : MethodId} {args : Array Value} {below : List Frame} {meth : Method} {c : Code} {D : va_G} {dA : Nat → ClassId} {s0 : Nat} {T : xT} {N : xT} {Z : Nat} {I : xI} {L : xL} {R : xR} {H : Heap} {locs : List Loc} {ls : Array Slot} {x0 : Int32} {ro : Int32} (X : Cx D dA s0 p m c cX0_isCorner 1 s args RX0 meth) (hr : meth.sig.returnType = (some .boolean)) (hf : fX0_isCorner x0 = some ro) (V : Iv D dA s0 s T N Z I L R H locs) (hl : lv_has ls 1 [(0, .int x0)]) : W p l e { frames := 1, cells := 0, slots := 0, locals := 22 } s m args below meth c H locs 0 0 (MQ below (xQ D dA s0 (some (.int ro)) T N Z I L R) args s 0 0 (fun q => s0 ≤ q)) (F0 m 0 ls []) := by
  have hx := X.1.1
  have hb := X.1.2.1
  unfold fX0_isCorner at hf
  refine lv_iload_n (pc := 0) hx hb dX0_isCorner_0 rfl (lv_at hl 0 rfl) ?_
  refine lv_iconst (pc := 1) (v := (ii 0)) hx hb dX0_isCorner_1 (by decide) ?_
  refine lv_bipush (pc := 2) (v := (ii 7)) hx hb dX0_isCorner_2 (by decide) ?_
  replace hf := bs hf; obtain ⟨r1, hk_2, hf⟩ := hf
  refine x_callS0 (pc := 4) (As := [.int x0, .int (ii 0), .int (ii 7)]) (rest := []) X V (mX0_in l D dA s0 hk_2) q449 q450 q119 q451 hsX0_in ⟨Nat.le_of_ble_eq_true rfl, Nat.le_of_ble_eq_true rfl⟩ rfl hl.1 rfl (Nat.le_of_ble_eq_true rfl) dX0_isCorner_4 ⟨Nat.zero_le _, Nat.zero_le _⟩ (fun H locs V => W.eq (g2 := F0 m 7 ls [.int r1]) rfl ?_)
  replace hf := chk_s hf; obtain ⟨hz3, hf⟩ := hf
  cases hf
  exact x_zret (pc := 7) X V hr hz3 dX0_isCorner_7
theorem mX0_isCorner (l : Launch) (D : va_G) (dA : Nat → ClassId) (s0 : Nat) {T : xT} {N : xT} {Z : Nat} {I : xI} {L : xL} {R : xR} {x0 : Int32} {ro : Int32} (hf : fX0_isCorner x0 = some ro) : XMet l D dA s0 yX0_isCorner (ws_ yX0_isCorner cX0_isCorner 1 ((some .boolean))) (1) (22) [.int x0] T N Z I L R (some (.int ro)) T N Z I L R 0 0 :=
  x_start (own := RX0) rfl (by decide) (Nat.le_of_ble_eq_true rfl) (lv := [(0, .int x0)]) rfl (fun p e s m below meth c ls X hr hini V hl => wX0_isCorner_e X hr hf V hl)
set_option maxHeartbeats 400000 in
set_option maxRecDepth 100000 in
theorem wX0_canLane_e {p : Program} {l : Launch} {e : Env} {s : State} {m : MethodId} {args : Array Value} {below : List Frame} {meth : Method} {c : Code} {D : va_G} {dA : Nat → ClassId} {s0 : Nat} {T : xT} {N : xT} {Z : Nat} {I : xI} {L : xL} {R : xR} {H : Heap} {locs : List Loc} {ls : Array Slot} {x0 : Int32} {x1 : Int32} {x2 : Int32} {x3 : Int32} {ro : Int32} (X : Cx D dA s0 p m c cX0_canLane 4 s args RX0 meth) (hr : meth.sig.returnType = (some .boolean)) (hf : fX0_canLane x0 x1 x2 x3 = some ro) (V : Iv D dA s0 s T N Z I L R H locs) (hl : lv_has ls 4 [(0, .int x0), (1, .int x1), (2, .int x2), (3, .int x3)]) : W p l e { frames := 2, cells := 0, slots := 0, locals := 42 } s m args below meth c H locs 0 0 (MQ below (xQ D dA s0 (some (.int ro)) T N Z I L R) args s 0 0 (fun q => s0 ≤ q)) (F0 m 0 ls []) := by
  have hx := X.1.1
  have hb := X.1.2.1
  unfold fX0_canLane at hf
  refine lv_iload_n (pc := 0) hx hb dX0_canLane_0 rfl (lv_at hl 0 rfl) ?_
  replace hf := bs hf; obtain ⟨r1, hk_2, hf⟩ := hf
  refine x_callS0 (pc := 1) (As := [.int x0]) (rest := []) X V (mX0_isCorner l D dA s0 hk_2) q561 q562 q119 q563 hsX0_isCorner ⟨Nat.le_of_ble_eq_true rfl, Nat.le_of_ble_eq_true rfl⟩ rfl hl.1 rfl (Nat.le_of_ble_eq_true rfl) dX0_canLane_1 ⟨Nat.zero_le _, Nat.zero_le _⟩ (fun H locs V => W.eq (g2 := F0 m 4 ls [.int r1]) rfl ?_)
  refine lv_if_eq (pc := 4) (tgt := 42) hx hb dX0_canLane_4 (by decide) (fun c3 => ?_) (fun c3 => ?_)
  · replace hf := if_t hf c3
    refine lv_iconst (pc := 42) (v := (ii 0)) hx hb dX0_canLane_42 (by decide) ?_
    cases hf
    exact x_zret (pc := 43) X V hr (by decide) dX0_canLane_43
  · replace hf := if_f hf c3
    refine lv_iload_n (pc := 7) hx hb dX0_canLane_7 rfl (lv_at hl 1 rfl) ?_
    replace hf := bs hf; obtain ⟨r4, hk_5, hf⟩ := hf
    refine x_callS0 (pc := 8) (As := [.int x1]) (rest := []) X V (mX0_isCorner l D dA s0 hk_5) q561 q562 q119 q563 hsX0_isCorner ⟨Nat.le_of_ble_eq_true rfl, Nat.le_of_ble_eq_true rfl⟩ rfl hl.1 rfl (Nat.le_of_ble_eq_true rfl) dX0_canLane_8 ⟨Nat.zero_le _, Nat.zero_le _⟩ (fun H locs V => W.eq (g2 := F0 m 11 ls [.int r4]) rfl ?_)
    refine lv_if_eq (pc := 11) (tgt := 42) hx hb dX0_canLane_11 (by decide) (fun c6 => ?_) (fun c6 => ?_)
    · replace hf := if_t hf c6
      refine lv_iconst (pc := 42) (v := (ii 0)) hx hb dX0_canLane_42 (by decide) ?_
      cases hf
      exact x_zret (pc := 43) X V hr (by decide) dX0_canLane_43
    · replace hf := if_f hf c6
      refine lv_iload_n (pc := 14) hx hb dX0_canLane_14 rfl (lv_at hl 0 rfl) ?_
      refine lv_iload_n (pc := 15) hx hb dX0_canLane_15 rfl (lv_at hl 1 rfl) ?_
      refine lv_icmp_eq (pc := 16) (tgt := 42) hx hb dX0_canLane_16 (by decide) (fun c7 => ?_) (fun c7 => ?_)
      · replace hf := if_t hf c7
        refine lv_iconst (pc := 42) (v := (ii 0)) hx hb dX0_canLane_42 (by decide) ?_
        cases hf
        exact x_zret (pc := 43) X V hr (by decide) dX0_canLane_43
      · replace hf := if_f hf c7
        refine lv_iload_n (pc := 19) hx hb dX0_canLane_19 rfl (lv_at hl 2 rfl) ?_
        refine lv_iconst (pc := 20) (v := (ii 1)) hx hb dX0_canLane_20 (by decide) ?_
        refine lv_bipush (pc := 21) (v := (ii 9)) hx hb dX0_canLane_21 (by decide) ?_
        replace hf := bs hf; obtain ⟨r8, hk_9, hf⟩ := hf
        refine x_callS0 (pc := 23) (As := [.int x2, .int (ii 1), .int (ii 9)]) (rest := []) X V (mX0_in l D dA s0 hk_9) q449 q450 q119 q451 hsX0_in ⟨Nat.le_of_ble_eq_true rfl, Nat.le_of_ble_eq_true rfl⟩ rfl hl.1 rfl (Nat.le_of_ble_eq_true rfl) dX0_canLane_23 ⟨Nat.zero_le _, Nat.zero_le _⟩ (fun H locs V => W.eq (g2 := F0 m 26 ls [.int r8]) rfl ?_)
        refine lv_if_eq (pc := 26) (tgt := 42) hx hb dX0_canLane_26 (by decide) (fun c10 => ?_) (fun c10 => ?_)
        · replace hf := if_t hf c10
          refine lv_iconst (pc := 42) (v := (ii 0)) hx hb dX0_canLane_42 (by decide) ?_
          cases hf
          exact x_zret (pc := 43) X V hr (by decide) dX0_canLane_43
        · replace hf := if_f hf c10
          refine lv_iload_n (pc := 29) hx hb dX0_canLane_29 rfl (lv_at hl 3 rfl) ?_
          refine lv_iconst (pc := 30) (v := (ii 0)) hx hb dX0_canLane_30 (by decide) ?_
          refine lv_iconst (pc := 31) (v := (ii 4)) hx hb dX0_canLane_31 (by decide) ?_
          replace hf := bs hf; obtain ⟨r11, hk_12, hf⟩ := hf
          refine x_callS0 (pc := 32) (As := [.int x3, .int (ii 0), .int (ii 4)]) (rest := []) X V (mX0_in l D dA s0 hk_12) q449 q450 q119 q451 hsX0_in ⟨Nat.le_of_ble_eq_true rfl, Nat.le_of_ble_eq_true rfl⟩ rfl hl.1 rfl (Nat.le_of_ble_eq_true rfl) dX0_canLane_32 ⟨Nat.zero_le _, Nat.zero_le _⟩ (fun H locs V => W.eq (g2 := F0 m 35 ls [.int r11]) rfl ?_)
          refine lv_if_eq (pc := 35) (tgt := 42) hx hb dX0_canLane_35 (by decide) (fun c13 => ?_) (fun c13 => ?_)
          · replace hf := if_t hf c13
            refine lv_iconst (pc := 42) (v := (ii 0)) hx hb dX0_canLane_42 (by decide) ?_
            cases hf
            exact x_zret (pc := 43) X V hr (by decide) dX0_canLane_43
          · replace hf := if_f hf c13
            refine lv_iconst (pc := 38) (v := (ii 1)) hx hb dX0_canLane_38 (by decide) ?_
            refine lv_goto (pc := 39) (tgt := 43) hx hb dX0_canLane_39 (by decide) ?_
            cases hf
            exact x_zret (pc := 43) X V hr (by decide) dX0_canLane_43
theorem mX0_canLane (l : Launch) (D : va_G) (dA : Nat → ClassId) (s0 : Nat) {T : xT} {N : xT} {Z : Nat} {I : xI} {L : xL} {R : xR} {x0 : Int32} {x1 : Int32} {x2 : Int32} {x3 : Int32} {ro : Int32} (hf : fX0_canLane x0 x1 x2 x3 = some ro) : XMet l D dA s0 yX0_canLane (ws_ yX0_canLane cX0_canLane 4 ((some .boolean))) (2) (42) [.int x0, .int x1, .int x2, .int x3] T N Z I L R (some (.int ro)) T N Z I L R 0 0 :=
  x_start (own := RX0) rfl (by decide) (Nat.le_of_ble_eq_true rfl) (lv := [(0, .int x0), (1, .int x1), (2, .int x2), (3, .int x3)]) rfl (fun p e s m below meth c ls X hr hini V hl => wX0_canLane_e X hr hf V hl)
set_option maxHeartbeats 400000 in
set_option maxRecDepth 100000 in
theorem wX0_table_e {p : Program} {l : Launch} {e : Env} {s : State} {m : MethodId} {args : Array Value} {below : List Frame} {meth : Method} {c : Code} {D : va_G} {dA : Nat → ClassId} {s0 : Nat} {T : xT} {N : xT} {Z : Nat} {I : xI} {L : xL} {R : xR} {H : Heap} {locs : List Loc} {ls : Array Slot} {x0 : Nat} {ro : Nat} (X : Cx D dA s0 p m c cX0_table 1 s args RX0 meth) (hr : meth.sig.returnType = (some (.object "LostLanes$Table"))) (hf : fX0_table T R x0 = some ro) (V : Iv D dA s0 s T N Z I L R H locs) (hl : lv_has ls 1 [(0, .ref x0)]) : W p l e { frames := 0, cells := 0, slots := 0, locals := 0 } s m args below meth c H locs 0 0 (MQ below (xQ D dA s0 (some (.ref ro)) T N Z I L R) args s 0 0 (fun q => s0 ≤ q)) (F0 m 0 ls []) := by
  have hx := X.1.1
  have hb := X.1.2.1
  unfold fX0_table at hf
  refine lv_aload_n (pc := 0) hx hb dX0_table_0 rfl (lv_at hl 0 rfl) ?_
  replace hf := tg_s hf; obtain ⟨ht1, hf⟩ := hf
  replace hf := bs hf; obtain ⟨a2, ha2, hf⟩ := hf
  refine x_get (pc := 1) X V okX0 ht1 2 (by decide) q362 (v := va_rf (R x0 2)) rfl dX0_table_1 ?_
  refine x_topr ha2 ?_
  replace hf := tg_s hf; obtain ⟨ht3, hf⟩ := hf
  replace hf := bs hf; obtain ⟨a4, ha4, hf⟩ := hf
  refine x_getN (pc := 4) X V okX1 ht3 0 (by decide) q222 (v := va_rf (R a2 0)) rfl dX0_table_4 ?_
  refine x_topr ha4 ?_
  cases hf
  exact x_aret (pc := 7) X V hr (Or.inl ⟨_, rfl⟩) dX0_table_7
theorem mX0_table (l : Launch) (D : va_G) (dA : Nat → ClassId) (s0 : Nat) {T : xT} {N : xT} {Z : Nat} {I : xI} {L : xL} {R : xR} {x0 : Nat} {ro : Nat} (hf : fX0_table T R x0 = some ro) : XMet l D dA s0 yX0_table (ws_ yX0_table cX0_table 1 ((some (.object "LostLanes$Table")))) (0) (0) [.ref x0] T N Z I L R (some (.ref ro)) T N Z I L R 0 0 :=
  x_start (own := RX0) rfl (by decide) (Nat.le_of_ble_eq_true rfl) (lv := [(0, .ref x0)]) rfl (fun p e s m below meth c ls X hr hini V hl => wX0_table_e X hr hf V hl)
set_option maxHeartbeats 400000 in
set_option maxRecDepth 100000 in
theorem wX0_adds_e {p : Program} {l : Launch} {e : Env} {s : State} {m : MethodId} {args : Array Value} {below : List Frame} {meth : Method} {c : Code} {D : va_G} {dA : Nat → ClassId} {s0 : Nat} {T : xT} {N : xT} {Z : Nat} {I : xI} {L : xL} {R : xR} {H : Heap} {locs : List Loc} {ls : Array Slot} {x0 : Nat} {x1 : Int32} {x2 : Int32} {x3 : Int32} {x4 : Int32} {ro : Int32} {Io : xI} (X : Cx D dA s0 p m c cX0_adds 6 s args RX0 meth) (hr : meth.sig.returnType = (some .int)) (hf : fX0_adds T N I R x0 x1 x2 x3 x4 = some (ro, Io)) (V : Iv D dA s0 s T N Z I L R H locs) (hl : lv_has ls 6 [(0, .ref x0), (1, .int x1), (2, .int x2), (3, .int x3), (4, .int x4)]) : W p l e { frames := 1, cells := 0, slots := 0, locals := 20 } s m args below meth c H locs 0 0 (MQ below (xQ D dA s0 (some (.int ro)) T N Z Io L R) args s 0 0 (fun q => s0 ≤ q)) (F0 m 0 ls []) := by
  have hx := X.1.1
  have hb := X.1.2.1
  unfold fX0_adds at hf
  refine lv_aload_n (pc := 0) hx hb dX0_adds_0 rfl (lv_at hl 0 rfl) ?_
  replace hf := tg_s hf; obtain ⟨ht1, hf⟩ := hf
  replace hf := bs hf; obtain ⟨a2, ha2, hf⟩ := hf
  refine x_get (pc := 1) X V okX0 ht1 2 (by decide) q362 (v := va_rf (R x0 2)) rfl dX0_adds_1 ?_
  refine x_topr ha2 ?_
  replace hf := tg_s hf; obtain ⟨ht3, hf⟩ := hf
  refine x_getN (pc := 4) X V okX1 ht3 8 (by decide) q238 (v := .int (I a2 8)) rfl dX0_adds_4 ?_
  replace hf := nm_s hf; obtain ⟨u4, hu4, hf⟩ := hf
  refine x_topi hu4 ?_
  refine lv_istore (pc := 7) (lv' := [(5, .int u4), (0, .ref x0), (1, .int x1), (2, .int x2), (3, .int x3), (4, .int x4)]) hx hb dX0_adds_7 hl (by decide) rfl (fun ls hl => ?_)
  refine lv_aload_n (pc := 9) hx hb dX0_adds_9 rfl (lv_at hl 1 rfl) ?_
  refine x_get (pc := 10) X V okX0 ht1 2 (by decide) q362 (v := va_rf (R x0 2)) rfl dX0_adds_10 ?_
  refine x_topr ha2 ?_
  replace hf := bs hf; obtain ⟨a5, ha5, hf⟩ := hf
  refine x_getN (pc := 13) X V okX1 ht3 1 (by decide) q224 (v := va_rf (R a2 1)) rfl dX0_adds_13 ?_
  refine x_topr ha5 ?_
  refine lv_iload (pc := 16) hx hb dX0_adds_16 (lv_at hl 0 rfl) ?_
  refine lv_iload_n (pc := 18) hx hb dX0_adds_18 rfl (lv_at hl 2 rfl) ?_
  replace hf := rA_s hf; obtain ⟨j6, hjj6, htj6, hij6, hf⟩ := hf
  replace hf := nm_s hf; obtain ⟨I7, hI7, hf⟩ := hf
  refine x_iast (pc := 19) X V htj6 hij6 hjj6 hI7 dX0_adds_19 (fun H locs V => ?_)
  refine lv_aload_n (pc := 20) hx hb dX0_adds_20 rfl (lv_at hl 1 rfl) ?_
  refine x_get (pc := 21) X V okX0 ht1 2 (by decide) q362 (v := va_rf (R x0 2)) rfl dX0_adds_21 ?_
  refine x_topr ha2 ?_
  replace hf := bs hf; obtain ⟨a8, ha8, hf⟩ := hf
  refine x_getN (pc := 24) X V okX1 ht3 2 (by decide) q226 (v := va_rf (R a2 2)) rfl dX0_adds_24 ?_
  refine x_topr ha8 ?_
  refine lv_iload (pc := 27) hx hb dX0_adds_27 (lv_at hl 0 rfl) ?_
  refine lv_iload_n (pc := 29) hx hb dX0_adds_29 rfl (lv_at hl 3 rfl) ?_
  replace hf := rA_s hf; obtain ⟨j9, hjj9, htj9, hij9, hf⟩ := hf
  replace hf := nm_s hf; obtain ⟨I10, hI10, hf⟩ := hf
  refine x_iast (pc := 30) X V htj9 hij9 hjj9 hI10 dX0_adds_30 (fun H locs V => ?_)
  refine lv_aload_n (pc := 31) hx hb dX0_adds_31 rfl (lv_at hl 1 rfl) ?_
  refine x_get (pc := 32) X V okX0 ht1 2 (by decide) q362 (v := va_rf (R x0 2)) rfl dX0_adds_32 ?_
  refine x_topr ha2 ?_
  replace hf := bs hf; obtain ⟨a11, ha11, hf⟩ := hf
  refine x_getN (pc := 35) X V okX1 ht3 3 (by decide) q228 (v := va_rf (R a2 3)) rfl dX0_adds_35 ?_
  refine x_topr ha11 ?_
  refine lv_iload (pc := 38) hx hb dX0_adds_38 (lv_at hl 0 rfl) ?_
  refine lv_iload_n (pc := 40) hx hb dX0_adds_40 rfl (lv_at hl 4 rfl) ?_
  replace hf := rA_s hf; obtain ⟨j12, hjj12, htj12, hij12, hf⟩ := hf
  replace hf := nm_s hf; obtain ⟨I13, hI13, hf⟩ := hf
  refine x_iast (pc := 41) X V htj12 hij12 hjj12 hI13 dX0_adds_41 (fun H locs V => ?_)
  refine lv_aload_n (pc := 42) hx hb dX0_adds_42 rfl (lv_at hl 1 rfl) ?_
  refine x_get (pc := 43) X V okX0 ht1 2 (by decide) q362 (v := va_rf (R x0 2)) rfl dX0_adds_43 ?_
  refine x_topr ha2 ?_
  replace hf := bs hf; obtain ⟨a14, ha14, hf⟩ := hf
  refine x_getN (pc := 46) X V okX1 ht3 4 (by decide) q230 (v := va_rf (R a2 4)) rfl dX0_adds_46 ?_
  refine x_topr ha14 ?_
  refine lv_iload (pc := 49) hx hb dX0_adds_49 (lv_at hl 0 rfl) ?_
  refine lv_iload (pc := 51) hx hb dX0_adds_51 (lv_at hl 5 rfl) ?_
  replace hf := rA_s hf; obtain ⟨j15, hjj15, htj15, hij15, hf⟩ := hf
  replace hf := nm_s hf; obtain ⟨I16, hI16, hf⟩ := hf
  refine x_iast (pc := 53) X V htj15 hij15 hjj15 hI16 dX0_adds_53 (fun H locs V => ?_)
  refine lv_aload_n (pc := 54) hx hb dX0_adds_54 rfl (lv_at hl 1 rfl) ?_
  replace hf := bs hf; obtain ⟨r17, hk_18, hf⟩ := hf
  refine x_callV0 (pc := 55) (As := []) (rest := []) X V (mX0_table l D dA s0 hk_18) okX0 ht1 q568 q570 qs6 q119 q571 ⟨rfl, hsX0_table⟩ ⟨Nat.le_of_ble_eq_true rfl, Nat.le_of_ble_eq_true rfl⟩ rfl hl.1 rfl (Nat.le_of_ble_eq_true rfl) dX0_adds_55 ⟨Nat.zero_le _, Nat.zero_le _⟩ (fun H locs V => W.eq (g2 := F0 m 58 ls [.ref r17]) rfl ?_)
  replace hf := tg_s hf; obtain ⟨ht19, hf⟩ := hf
  replace hf := bs hf; obtain ⟨a20, ha20, hf⟩ := hf
  refine x_getN (pc := 58) X V okX2 ht19 2 (by decide) q180 (v := va_rf (R r17 2)) rfl dX0_adds_58 ?_
  refine x_topr ha20 ?_
  refine lv_iload (pc := 61) hx hb dX0_adds_61 (lv_at hl 0 rfl) ?_
  refine lv_iconst (pc := 63) (v := (-1 : Int32)) hx hb dX0_adds_63 (by decide) ?_
  replace hf := rA_s hf; obtain ⟨j21, hjj21, htj21, hij21, hf⟩ := hf
  replace hf := nm_s hf; obtain ⟨I22, hI22, hf⟩ := hf
  refine x_iast (pc := 64) X V htj21 hij21 hjj21 hI22 dX0_adds_64 (fun H locs V => ?_)
  refine lv_aload_n (pc := 65) hx hb dX0_adds_65 rfl (lv_at hl 1 rfl) ?_
  refine x_get (pc := 66) X V okX0 ht1 2 (by decide) q362 (v := va_rf (R x0 2)) rfl dX0_adds_66 ?_
  refine x_topr ha2 ?_
  refine lv_dup (pc := 69) hx hb dX0_adds_69 rfl ?_
  refine x_getN (pc := 70) X V okX1 ht3 8 (by decide) q238 (v := .int (I22 a2 8)) rfl dX0_adds_70 ?_
  refine lv_iconst (pc := 73) (v := (ii 1)) hx hb dX0_adds_73 (by decide) ?_
  refine lv_iadd (pc := 74) hx hb dX0_adds_74 ?_
  replace hf := nm_s hf; obtain ⟨I23, hI23, hf⟩ := hf
  refine x_putNi (pc := 75) X V okX1 (by decide) ht3 8 (by decide) q238 rfl hI23 (fun _ _ _ => rfl) rfl rfl dX0_adds_75 (fun H locs V => ?_)
  refine lv_iload (pc := 78) hx hb dX0_adds_78 (lv_at hl 0 rfl) ?_
  cases hf
  exact x_iret (pc := 80) X V hr dX0_adds_80
theorem mX0_adds (l : Launch) (D : va_G) (dA : Nat → ClassId) (s0 : Nat) {T : xT} {N : xT} {Z : Nat} {I : xI} {L : xL} {R : xR} {x0 : Nat} {x1 : Int32} {x2 : Int32} {x3 : Int32} {x4 : Int32} {ro : Int32} {Io : xI} (hf : fX0_adds T N I R x0 x1 x2 x3 x4 = some (ro, Io)) : XMet l D dA s0 yX0_adds (ws_ yX0_adds cX0_adds 6 ((some .int))) (1) (20) [.ref x0, .int x1, .int x2, .int x3, .int x4] T N Z I L R (some (.int ro)) T N Z Io L R 0 0 :=
  x_start (own := RX0) rfl (by decide) (Nat.le_of_ble_eq_true rfl) (lv := [(0, .ref x0), (1, .int x1), (2, .int x2), (3, .int x3), (4, .int x4)]) rfl (fun p e s m below meth c ls X hr hini V hl => wX0_adds_e X hr hf V hl)
set_option maxHeartbeats 400000 in
set_option maxRecDepth 100000 in
theorem wX0_lane_e {p : Program} {l : Launch} {e : Env} {s : State} {m : MethodId} {args : Array Value} {below : List Frame} {meth : Method} {c : Code} {D : va_G} {dA : Nat → ClassId} {s0 : Nat} {T : xT} {N : xT} {Z : Nat} {I : xI} {L : xL} {R : xR} {H : Heap} {locs : List Loc} {ls : Array Slot} {x0 : Nat} {x1 : Int32} {x2 : Int32} {x3 : Int32} {x4 : Int32} {ro : Int32} {Io : xI} (X : Cx D dA s0 p m c cX0_lane 5 s args RX0 meth) (hr : meth.sig.returnType = (some .int)) (hf : fX0_lane T N I R x0 x1 x2 x3 x4 = some (ro, Io)) (V : Iv D dA s0 s T N Z I L R H locs) (hl : lv_has ls 5 [(0, .ref x0), (1, .int x1), (2, .int x2), (3, .int x3), (4, .int x4)]) : W p l e { frames := 3, cells := 0, slots := 0, locals := 65 } s m args below meth c H locs 0 0 (MQ below (xQ D dA s0 (some (.int ro)) T N Z Io L R) args s 0 0 (fun q => s0 ≤ q)) (F0 m 0 ls []) := by
  have hx := X.1.1
  have hb := X.1.2.1
  unfold fX0_lane at hf
  refine lv_iload_n (pc := 0) hx hb dX0_lane_0 rfl (lv_at hl 1 rfl) ?_
  refine lv_iload_n (pc := 1) hx hb dX0_lane_1 rfl (lv_at hl 2 rfl) ?_
  refine lv_iload_n (pc := 2) hx hb dX0_lane_2 rfl (lv_at hl 3 rfl) ?_
  refine lv_iload (pc := 3) hx hb dX0_lane_3 (lv_at hl 4 rfl) ?_
  replace hf := bs hf; obtain ⟨r1, hk_2, hf⟩ := hf
  refine x_callS0 (pc := 5) (As := [.int x1, .int x2, .int x3, .int x4]) (rest := []) X V (mX0_canLane l D dA s0 hk_2) q558 q559 q119 q560 hsX0_canLane ⟨Nat.le_of_ble_eq_true rfl, Nat.le_of_ble_eq_true rfl⟩ rfl hl.1 rfl (Nat.le_of_ble_eq_true rfl) dX0_lane_5 ⟨Nat.zero_le _, Nat.zero_le _⟩ (fun H locs V => W.eq (g2 := F0 m 8 ls [.int r1]) rfl ?_)
  refine lv_if_ne (pc := 8) (tgt := 17) hx hb dX0_lane_8 (by decide) (fun c3 => ?_) (fun c3 => ?_)
  · replace hf := if_f hf c3
    refine lv_aload_n (pc := 17) hx hb dX0_lane_17 rfl (lv_at hl 0 rfl) ?_
    replace hf := tg_s hf; obtain ⟨ht4, hf⟩ := hf
    replace hf := bs hf; obtain ⟨a5, ha5, hf⟩ := hf
    refine x_get (pc := 18) X V okX0 ht4 2 (by decide) q362 (v := va_rf (R x0 2)) rfl dX0_lane_18 ?_
    refine x_topr ha5 ?_
    replace hf := tg_s hf; obtain ⟨ht6, hf⟩ := hf
    refine x_getN (pc := 21) X V okX1 ht6 8 (by decide) q238 (v := .int (I a5 8)) rfl dX0_lane_21 ?_
    refine lv_bipush (pc := 24) (v := (ii 10)) hx hb dX0_lane_24 (by decide) ?_
    refine lv_icmp_ne (pc := 26) (tgt := 36) hx hb dX0_lane_26 (by decide) (fun c7 => ?_) (fun c7 => ?_)
    · replace hf := if_f hf c7
      refine lv_aload_n (pc := 36) hx hb dX0_lane_36 rfl (lv_at hl 0 rfl) ?_
      refine lv_aload_n (pc := 37) hx hb dX0_lane_37 rfl (lv_at hl 0 rfl) ?_
      refine lv_iload_n (pc := 38) hx hb dX0_lane_38 rfl (lv_at hl 1 rfl) ?_
      refine lv_iload_n (pc := 39) hx hb dX0_lane_39 rfl (lv_at hl 2 rfl) ?_
      refine lv_iload_n (pc := 40) hx hb dX0_lane_40 rfl (lv_at hl 3 rfl) ?_
      refine lv_iload (pc := 41) hx hb dX0_lane_41 (lv_at hl 4 rfl) ?_
      replace hf := b2s hf; obtain ⟨r8, I9, hk_10, hf⟩ := hf
      refine x_callV0 (pc := 43) (As := [.int x1, .int x2, .int x3, .int x4]) (rest := [.ref x0]) X V (mX0_adds l D dA s0 hk_10) okX0 ht4 q564 q566 qs5 q119 q567 ⟨rfl, hsX0_adds⟩ ⟨Nat.le_of_ble_eq_true rfl, Nat.le_of_ble_eq_true rfl⟩ rfl hl.1 rfl (Nat.le_of_ble_eq_true rfl) dX0_lane_43 ⟨Nat.zero_le _, Nat.zero_le _⟩ (fun H locs V => W.eq (g2 := F0 m 46 ls [.int r8, .ref x0]) rfl ?_)
      replace hf := b2s hf; obtain ⟨r11, I12, hk_13, hf⟩ := hf
      refine x_callV0 (pc := 46) (As := [.int r8]) (rest := []) X V (mX0_settled l D dA s0 hk_13) okX0 ht4 q550 q552 qs4 q119 q553 ⟨rfl, hsX0_settled⟩ ⟨Nat.le_of_ble_eq_true rfl, Nat.le_of_ble_eq_true rfl⟩ rfl hl.1 rfl (Nat.le_of_ble_eq_true rfl) dX0_lane_46 ⟨Nat.zero_le _, Nat.zero_le _⟩ (fun H locs V => W.eq (g2 := F0 m 49 ls [.int r11]) rfl ?_)
      cases hf
      exact x_iret (pc := 49) X V hr dX0_lane_49
    · replace hf := if_t hf c7
      refine lv_aload_n (pc := 29) hx hb dX0_lane_29 rfl (lv_at hl 0 rfl) ?_
      refine lv_bipush (pc := 30) (v := (-5 : Int32)) hx hb dX0_lane_30 (by decide) ?_
      replace hf := b2s hf; obtain ⟨r14, I15, hk_16, hf⟩ := hf
      refine x_callV0 (pc := 32) (As := [.int (-5 : Int32)]) (rest := []) X V (mX0_refuse l D dA s0 hk_16) okX0 ht4 q452 q454 qs1 q119 q455 ⟨rfl, hsX0_refuse⟩ ⟨Nat.le_of_ble_eq_true rfl, Nat.le_of_ble_eq_true rfl⟩ rfl hl.1 rfl (Nat.le_of_ble_eq_true rfl) dX0_lane_32 ⟨Nat.zero_le _, Nat.zero_le _⟩ (fun H locs V => W.eq (g2 := F0 m 35 ls [.int r14]) rfl ?_)
      cases hf
      exact x_iret (pc := 35) X V hr dX0_lane_35
  · replace hf := if_t hf c3
    refine lv_aload_n (pc := 11) hx hb dX0_lane_11 rfl (lv_at hl 0 rfl) ?_
    refine lv_iconst (pc := 12) (v := (-1 : Int32)) hx hb dX0_lane_12 (by decide) ?_
    replace hf := tg_s hf; obtain ⟨ht20, hf⟩ := hf
    replace hf := b2s hf; obtain ⟨r17, I18, hk_19, hf⟩ := hf
    refine x_callV0 (pc := 13) (As := [.int (-1 : Int32)]) (rest := []) X V (mX0_refuse l D dA s0 hk_19) okX0 ht20 q452 q454 qs1 q119 q455 ⟨rfl, hsX0_refuse⟩ ⟨Nat.le_of_ble_eq_true rfl, Nat.le_of_ble_eq_true rfl⟩ rfl hl.1 rfl (Nat.le_of_ble_eq_true rfl) dX0_lane_13 ⟨Nat.zero_le _, Nat.zero_le _⟩ (fun H locs V => W.eq (g2 := F0 m 16 ls [.int r17]) rfl ?_)
    cases hf
    exact x_iret (pc := 16) X V hr dX0_lane_16
theorem mX0_lane (l : Launch) (D : va_G) (dA : Nat → ClassId) (s0 : Nat) {T : xT} {N : xT} {Z : Nat} {I : xI} {L : xL} {R : xR} {x0 : Nat} {x1 : Int32} {x2 : Int32} {x3 : Int32} {x4 : Int32} {ro : Int32} {Io : xI} (hf : fX0_lane T N I R x0 x1 x2 x3 x4 = some (ro, Io)) : XMet l D dA s0 yX0_lane (ws_ yX0_lane cX0_lane 5 ((some .int))) (3) (65) [.ref x0, .int x1, .int x2, .int x3, .int x4] T N Z I L R (some (.int ro)) T N Z Io L R 0 0 :=
  x_start (own := RX0) rfl (by decide) (Nat.le_of_ble_eq_true rfl) (lv := [(0, .ref x0), (1, .int x1), (2, .int x2), (3, .int x3), (4, .int x4)]) rfl (fun p e s m below meth c ls X hr hini V hl => wX0_lane_e X hr hf V hl)
set_option maxHeartbeats 400000 in
set_option maxRecDepth 100000 in
theorem wX0_isLane_e {p : Program} {l : Launch} {e : Env} {s : State} {m : MethodId} {args : Array Value} {below : List Frame} {meth : Method} {c : Code} {D : va_G} {dA : Nat → ClassId} {s0 : Nat} {T : xT} {N : xT} {Z : Nat} {I : xI} {L : xL} {R : xR} {H : Heap} {locs : List Loc} {ls : Array Slot} {x0 : Nat} {x1 : Int32} {ro : Int32} (X : Cx D dA s0 p m c cX0_isLane 2 s args RX0 meth) (hr : meth.sig.returnType = (some .boolean)) (hf : fX0_isLane T I R x0 x1 = some ro) (V : Iv D dA s0 s T N Z I L R H locs) (hl : lv_has ls 2 [(0, .ref x0), (1, .int x1)]) : W p l e { frames := 1, cells := 0, slots := 0, locals := 22 } s m args below meth c H locs 0 0 (MQ below (xQ D dA s0 (some (.int ro)) T N Z I L R) args s 0 0 (fun q => s0 ≤ q)) (F0 m 0 ls []) := by
  have hx := X.1.1
  have hb := X.1.2.1
  unfold fX0_isLane at hf
  refine lv_iload_n (pc := 0) hx hb dX0_isLane_0 rfl (lv_at hl 1 rfl) ?_
  refine lv_iconst (pc := 1) (v := (ii 0)) hx hb dX0_isLane_1 (by decide) ?_
  refine lv_aload_n (pc := 2) hx hb dX0_isLane_2 rfl (lv_at hl 0 rfl) ?_
  replace hf := tg_s hf; obtain ⟨ht1, hf⟩ := hf
  replace hf := bs hf; obtain ⟨a2, ha2, hf⟩ := hf
  refine x_get (pc := 3) X V okX0 ht1 2 (by decide) q362 (v := va_rf (R x0 2)) rfl dX0_isLane_3 ?_
  refine x_topr ha2 ?_
  replace hf := tg_s hf; obtain ⟨ht3, hf⟩ := hf
  refine x_getN (pc := 6) X V okX1 ht3 8 (by decide) q238 (v := .int (I a2 8)) rfl dX0_isLane_6 ?_
  refine lv_iconst (pc := 9) (v := (ii 1)) hx hb dX0_isLane_9 (by decide) ?_
  refine lv_isub (pc := 10) hx hb dX0_isLane_10 ?_
  replace hf := bs hf; obtain ⟨r4, hk_5, hf⟩ := hf
  refine x_callS0 (pc := 11) (As := [.int x1, .int (ii 0), .int ((I a2 8) - (ii 1))]) (rest := []) X V (mX0_in l D dA s0 hk_5) q449 q450 q119 q451 hsX0_in ⟨Nat.le_of_ble_eq_true rfl, Nat.le_of_ble_eq_true rfl⟩ rfl hl.1 rfl (Nat.le_of_ble_eq_true rfl) dX0_isLane_11 ⟨Nat.zero_le _, Nat.zero_le _⟩ (fun H locs V => W.eq (g2 := F0 m 14 ls [.int r4]) rfl ?_)
  replace hf := chk_s hf; obtain ⟨hz6, hf⟩ := hf
  cases hf
  exact x_zret (pc := 14) X V hr hz6 dX0_isLane_14
theorem mX0_isLane (l : Launch) (D : va_G) (dA : Nat → ClassId) (s0 : Nat) {T : xT} {N : xT} {Z : Nat} {I : xI} {L : xL} {R : xR} {x0 : Nat} {x1 : Int32} {ro : Int32} (hf : fX0_isLane T I R x0 x1 = some ro) : XMet l D dA s0 yX0_isLane (ws_ yX0_isLane cX0_isLane 2 ((some .boolean))) (1) (22) [.ref x0, .int x1] T N Z I L R (some (.int ro)) T N Z I L R 0 0 :=
  x_start (own := RX0) rfl (by decide) (Nat.le_of_ble_eq_true rfl) (lv := [(0, .ref x0), (1, .int x1)]) rfl (fun p e s m below meth c ls X hr hini V hl => wX0_isLane_e X hr hf V hl)
set_option maxHeartbeats 400000 in
set_option maxRecDepth 100000 in
theorem wX0_at_e {p : Program} {l : Launch} {e : Env} {s : State} {m : MethodId} {args : Array Value} {below : List Frame} {meth : Method} {c : Code} {D : va_G} {dA : Nat → ClassId} {s0 : Nat} {T : xT} {N : xT} {Z : Nat} {I : xI} {L : xL} {R : xR} {H : Heap} {locs : List Loc} {ls : Array Slot} {x0 : Nat} {x1 : Int32} {x2 : Int32} {ro : Int32} (X : Cx D dA s0 p m c cX0_at 3 s args RX0 meth) (hr : meth.sig.returnType = (some .int)) (hf : fX0_at T N I R x0 x1 x2 = some ro) (V : Iv D dA s0 s T N Z I L R H locs) (hl : lv_has ls 3 [(0, .ref x0), (1, .int x1), (2, .int x2)]) : W p l e { frames := 2, cells := 0, slots := 0, locals := 43 } s m args below meth c H locs 0 0 (MQ below (xQ D dA s0 (some (.int ro)) T N Z I L R) args s 0 0 (fun q => s0 ≤ q)) (F0 m 0 ls []) := by
  have hx := X.1.1
  have hb := X.1.2.1
  unfold fX0_at at hf
  refine lv_aload_n (pc := 0) hx hb dX0_at_0 rfl (lv_at hl 0 rfl) ?_
  refine lv_iload_n (pc := 1) hx hb dX0_at_1 rfl (lv_at hl 1 rfl) ?_
  replace hf := tg_s hf; obtain ⟨ht3, hf⟩ := hf
  replace hf := bs hf; obtain ⟨r1, hk_2, hf⟩ := hf
  refine x_callV0 (pc := 2) (As := [.int x1]) (rest := []) X V (mX0_isLane l D dA s0 hk_2) okX0 ht3 q576 q578 qs7 q119 q579 ⟨rfl, hsX0_isLane⟩ ⟨Nat.le_of_ble_eq_true rfl, Nat.le_of_ble_eq_true rfl⟩ rfl hl.1 rfl (Nat.le_of_ble_eq_true rfl) dX0_at_2 ⟨Nat.zero_le _, Nat.zero_le _⟩ (fun H locs V => W.eq (g2 := F0 m 5 ls [.int r1]) rfl ?_)
  refine lv_if_ne (pc := 5) (tgt := 10) hx hb dX0_at_5 (by decide) (fun c4 => ?_) (fun c4 => ?_)
  · replace hf := if_f hf c4
    refine lv_iload_n (pc := 10) hx hb dX0_at_10 rfl (lv_at hl 2 rfl) ?_
    by_cases c5 : x2 = (ii 0)
    · replace hf := if_t hf c5
      refine x_tswIn (pc := 11) (tgt := 44) (off := 33) hx hb c5 dX0_at_11 (by decide) (by decide) (by decide) (by decide) ?_
      refine lv_aload_n (pc := 44) hx hb dX0_at_44 rfl (lv_at hl 0 rfl) ?_
      replace hf := bs hf; obtain ⟨a6, ha6, hf⟩ := hf
      refine x_get (pc := 45) X V okX0 ht3 2 (by decide) q362 (v := va_rf (R x0 2)) rfl dX0_at_45 ?_
      refine x_topr ha6 ?_
      replace hf := tg_s hf; obtain ⟨ht7, hf⟩ := hf
      replace hf := bs hf; obtain ⟨a8, ha8, hf⟩ := hf
      refine x_getN (pc := 48) X V okX1 ht7 1 (by decide) q224 (v := va_rf (R a6 1)) rfl dX0_at_48 ?_
      refine x_topr ha8 ?_
      refine lv_iload_n (pc := 51) hx hb dX0_at_51 rfl (lv_at hl 1 rfl) ?_
      replace hf := rA_s hf; obtain ⟨j9, hjj9, htj9, hij9, hf⟩ := hf
      refine x_iald (pc := 52) X V htj9 hij9 hjj9 dX0_at_52 ?_
      cases hf
      exact x_iret (pc := 53) X V hr dX0_at_53
    replace hf := if_f hf c5
    by_cases c10 : x2 = (ii 1)
    · replace hf := if_t hf c10
      refine x_tswIn (pc := 11) (tgt := 54) (off := 43) hx hb c10 dX0_at_11 (by decide) (by decide) (by decide) (by decide) ?_
      refine lv_aload_n (pc := 54) hx hb dX0_at_54 rfl (lv_at hl 0 rfl) ?_
      replace hf := bs hf; obtain ⟨a11, ha11, hf⟩ := hf
      refine x_get (pc := 55) X V okX0 ht3 2 (by decide) q362 (v := va_rf (R x0 2)) rfl dX0_at_55 ?_
      refine x_topr ha11 ?_
      replace hf := tg_s hf; obtain ⟨ht12, hf⟩ := hf
      replace hf := bs hf; obtain ⟨a13, ha13, hf⟩ := hf
      refine x_getN (pc := 58) X V okX1 ht12 2 (by decide) q226 (v := va_rf (R a11 2)) rfl dX0_at_58 ?_
      refine x_topr ha13 ?_
      refine lv_iload_n (pc := 61) hx hb dX0_at_61 rfl (lv_at hl 1 rfl) ?_
      replace hf := rA_s hf; obtain ⟨j14, hjj14, htj14, hij14, hf⟩ := hf
      refine x_iald (pc := 62) X V htj14 hij14 hjj14 dX0_at_62 ?_
      cases hf
      exact x_iret (pc := 63) X V hr dX0_at_63
    replace hf := if_f hf c10
    by_cases c15 : x2 = (ii 2)
    · replace hf := if_t hf c15
      refine x_tswIn (pc := 11) (tgt := 64) (off := 53) hx hb c15 dX0_at_11 (by decide) (by decide) (by decide) (by decide) ?_
      refine lv_aload_n (pc := 64) hx hb dX0_at_64 rfl (lv_at hl 0 rfl) ?_
      replace hf := bs hf; obtain ⟨a16, ha16, hf⟩ := hf
      refine x_get (pc := 65) X V okX0 ht3 2 (by decide) q362 (v := va_rf (R x0 2)) rfl dX0_at_65 ?_
      refine x_topr ha16 ?_
      replace hf := tg_s hf; obtain ⟨ht17, hf⟩ := hf
      replace hf := bs hf; obtain ⟨a18, ha18, hf⟩ := hf
      refine x_getN (pc := 68) X V okX1 ht17 3 (by decide) q228 (v := va_rf (R a16 3)) rfl dX0_at_68 ?_
      refine x_topr ha18 ?_
      refine lv_iload_n (pc := 71) hx hb dX0_at_71 rfl (lv_at hl 1 rfl) ?_
      replace hf := rA_s hf; obtain ⟨j19, hjj19, htj19, hij19, hf⟩ := hf
      refine x_iald (pc := 72) X V htj19 hij19 hjj19 dX0_at_72 ?_
      cases hf
      exact x_iret (pc := 73) X V hr dX0_at_73
    replace hf := if_f hf c15
    by_cases c20 : x2 = (ii 3)
    · replace hf := if_t hf c20
      refine x_tswIn (pc := 11) (tgt := 74) (off := 63) hx hb c20 dX0_at_11 (by decide) (by decide) (by decide) (by decide) ?_
      refine lv_aload_n (pc := 74) hx hb dX0_at_74 rfl (lv_at hl 0 rfl) ?_
      replace hf := bs hf; obtain ⟨a21, ha21, hf⟩ := hf
      refine x_get (pc := 75) X V okX0 ht3 2 (by decide) q362 (v := va_rf (R x0 2)) rfl dX0_at_75 ?_
      refine x_topr ha21 ?_
      replace hf := tg_s hf; obtain ⟨ht22, hf⟩ := hf
      replace hf := bs hf; obtain ⟨a23, ha23, hf⟩ := hf
      refine x_getN (pc := 78) X V okX1 ht22 4 (by decide) q230 (v := va_rf (R a21 4)) rfl dX0_at_78 ?_
      refine x_topr ha23 ?_
      refine lv_iload_n (pc := 81) hx hb dX0_at_81 rfl (lv_at hl 1 rfl) ?_
      replace hf := rA_s hf; obtain ⟨j24, hjj24, htj24, hij24, hf⟩ := hf
      refine x_iald (pc := 82) X V htj24 hij24 hjj24 dX0_at_82 ?_
      cases hf
      exact x_iret (pc := 83) X V hr dX0_at_83
    replace hf := if_f hf c20
    by_cases c25 : x2 = (ii 4)
    · replace hf := if_t hf c25
      refine x_tswIn (pc := 11) (tgt := 84) (off := 73) hx hb c25 dX0_at_11 (by decide) (by decide) (by decide) (by decide) ?_
      refine lv_aload_n (pc := 84) hx hb dX0_at_84 rfl (lv_at hl 0 rfl) ?_
      replace hf := bs hf; obtain ⟨r26, hk_27, hf⟩ := hf
      refine x_callV0 (pc := 85) (As := []) (rest := []) X V (mX0_table l D dA s0 hk_27) okX0 ht3 q568 q570 qs6 q119 q571 ⟨rfl, hsX0_table⟩ ⟨Nat.le_of_ble_eq_true rfl, Nat.le_of_ble_eq_true rfl⟩ rfl hl.1 rfl (Nat.le_of_ble_eq_true rfl) dX0_at_85 ⟨Nat.zero_le _, Nat.zero_le _⟩ (fun H locs V => W.eq (g2 := F0 m 88 ls [.ref r26]) rfl ?_)
      replace hf := tg_s hf; obtain ⟨ht28, hf⟩ := hf
      replace hf := bs hf; obtain ⟨a29, ha29, hf⟩ := hf
      refine x_getN (pc := 88) X V okX2 ht28 2 (by decide) q180 (v := va_rf (R r26 2)) rfl dX0_at_88 ?_
      refine x_topr ha29 ?_
      refine lv_iload_n (pc := 91) hx hb dX0_at_91 rfl (lv_at hl 1 rfl) ?_
      replace hf := rA_s hf; obtain ⟨j30, hjj30, htj30, hij30, hf⟩ := hf
      refine x_iald (pc := 92) X V htj30 hij30 hjj30 dX0_at_92 ?_
      cases hf
      exact x_iret (pc := 93) X V hr dX0_at_93
    replace hf := if_f hf c25
    refine lv_tableOut (pc := 11) (tgt := 94) hx hb dX0_at_11 (by have qc5 := lv_neT c5 (a := 0) (by decide); have qc10 := lv_neT c10 (a := 1) (by decide); have qc15 := lv_neT c15 (a := 2) (by decide); have qc20 := lv_neT c20 (a := 3) (by decide); have qc25 := lv_neT c25 (a := 4) (by decide); omega) (by decide) ?_
    refine lv_iconst (pc := 94) (v := (-1 : Int32)) hx hb dX0_at_94 (by decide) ?_
    cases hf
    exact x_iret (pc := 95) X V hr dX0_at_95
  · replace hf := if_t hf c4
    refine lv_iconst (pc := 8) (v := (-1 : Int32)) hx hb dX0_at_8 (by decide) ?_
    cases hf
    exact x_iret (pc := 9) X V hr dX0_at_9
theorem mX0_at (l : Launch) (D : va_G) (dA : Nat → ClassId) (s0 : Nat) {T : xT} {N : xT} {Z : Nat} {I : xI} {L : xL} {R : xR} {x0 : Nat} {x1 : Int32} {x2 : Int32} {ro : Int32} (hf : fX0_at T N I R x0 x1 x2 = some ro) : XMet l D dA s0 yX0_at (ws_ yX0_at cX0_at 3 ((some .int))) (2) (43) [.ref x0, .int x1, .int x2] T N Z I L R (some (.int ro)) T N Z I L R 0 0 :=
  x_start (own := RX0) rfl (by decide) (Nat.le_of_ble_eq_true rfl) (lv := [(0, .ref x0), (1, .int x1), (2, .int x2)]) rfl (fun p e s m below meth c ls X hr hini V hl => wX0_at_e X hr hf V hl)
set_option maxHeartbeats 400000 in
set_option maxRecDepth 100000 in
theorem wX0_child_e {p : Program} {l : Launch} {e : Env} {s : State} {m : MethodId} {args : Array Value} {below : List Frame} {meth : Method} {c : Code} {D : va_G} {dA : Nat → ClassId} {s0 : Nat} {T : xT} {N : xT} {Z : Nat} {I : xI} {L : xL} {R : xR} {H : Heap} {locs : List Loc} {ls : Array Slot} {x0 : Nat} {x1 : Int32} {x2 : Int32} {ro : Int32} {Io : xI} (X : Cx D dA s0 p m c cX0_child 4 s args RX0 meth) (hr : meth.sig.returnType = (some .int)) (hf : fX0_child T N I R x0 x1 x2 = some (ro, Io)) (V : Iv D dA s0 s T N Z I L R H locs) (hl : lv_has ls 4 [(0, .ref x0), (1, .int x1), (2, .int x2)]) : W p l e { frames := 2, cells := 0, slots := 0, locals := 42 } s m args below meth c H locs 0 0 (MQ below (xQ D dA s0 (some (.int ro)) T N Z Io L R) args s 0 0 (fun q => s0 ≤ q)) (F0 m 0 ls []) := by
  have hx := X.1.1
  have hb := X.1.2.1
  unfold fX0_child at hf
  refine lv_iload_n (pc := 0) hx hb dX0_child_0 rfl (lv_at hl 1 rfl) ?_
  refine lv_iconst (pc := 1) (v := (ii 1)) hx hb dX0_child_1 (by decide) ?_
  refine lv_bipush (pc := 2) (v := (ii 9)) hx hb dX0_child_2 (by decide) ?_
  replace hf := bs hf; obtain ⟨r1, hk_2, hf⟩ := hf
  refine x_callS0 (pc := 4) (As := [.int x1, .int (ii 1), .int (ii 9)]) (rest := []) X V (mX0_in l D dA s0 hk_2) q449 q450 q119 q451 hsX0_in ⟨Nat.le_of_ble_eq_true rfl, Nat.le_of_ble_eq_true rfl⟩ rfl hl.1 rfl (Nat.le_of_ble_eq_true rfl) dX0_child_4 ⟨Nat.zero_le _, Nat.zero_le _⟩ (fun H locs V => W.eq (g2 := F0 m 7 ls [.int r1]) rfl ?_)
  refine lv_if_eq (pc := 7) (tgt := 17) hx hb dX0_child_7 (by decide) (fun c3 => ?_) (fun c3 => ?_)
  · replace hf := if_t hf c3
    refine lv_aload_n (pc := 17) hx hb dX0_child_17 rfl (lv_at hl 0 rfl) ?_
    refine lv_iconst (pc := 18) (v := (-1 : Int32)) hx hb dX0_child_18 (by decide) ?_
    replace hf := tg_s hf; obtain ⟨ht7, hf⟩ := hf
    replace hf := b2s hf; obtain ⟨r4, I5, hk_6, hf⟩ := hf
    refine x_callV0 (pc := 19) (As := [.int (-1 : Int32)]) (rest := []) X V (mX0_refuse l D dA s0 hk_6) okX0 ht7 q452 q454 qs1 q119 q455 ⟨rfl, hsX0_refuse⟩ ⟨Nat.le_of_ble_eq_true rfl, Nat.le_of_ble_eq_true rfl⟩ rfl hl.1 rfl (Nat.le_of_ble_eq_true rfl) dX0_child_19 ⟨Nat.zero_le _, Nat.zero_le _⟩ (fun H locs V => W.eq (g2 := F0 m 22 ls [.int r4]) rfl ?_)
    cases hf
    exact x_iret (pc := 22) X V hr dX0_child_22
  · replace hf := if_f hf c3
    refine lv_iload_n (pc := 10) hx hb dX0_child_10 rfl (lv_at hl 2 rfl) ?_
    replace hf := bs hf; obtain ⟨r8, hk_9, hf⟩ := hf
    refine x_callS0 (pc := 11) (As := [.int x2]) (rest := []) X V (mX0_isCorner l D dA s0 hk_9) q561 q562 q119 q563 hsX0_isCorner ⟨Nat.le_of_ble_eq_true rfl, Nat.le_of_ble_eq_true rfl⟩ rfl hl.1 rfl (Nat.le_of_ble_eq_true rfl) dX0_child_11 ⟨Nat.zero_le _, Nat.zero_le _⟩ (fun H locs V => W.eq (g2 := F0 m 14 ls [.int r8]) rfl ?_)
    refine lv_if_ne (pc := 14) (tgt := 23) hx hb dX0_child_14 (by decide) (fun c10 => ?_) (fun c10 => ?_)
    · replace hf := if_f hf c10
      refine lv_aload_n (pc := 23) hx hb dX0_child_23 rfl (lv_at hl 0 rfl) ?_
      replace hf := tg_s hf; obtain ⟨ht11, hf⟩ := hf
      replace hf := bs hf; obtain ⟨a12, ha12, hf⟩ := hf
      refine x_get (pc := 24) X V okX0 ht11 2 (by decide) q362 (v := va_rf (R x0 2)) rfl dX0_child_24 ?_
      refine x_topr ha12 ?_
      replace hf := tg_s hf; obtain ⟨ht13, hf⟩ := hf
      refine x_getN (pc := 27) X V okX1 ht13 9 (by decide) q240 (v := .int (I a12 9)) rfl dX0_child_27 ?_
      replace hf := nm_s hf; obtain ⟨u14, hu14, hf⟩ := hf
      refine x_topi hu14 ?_
      refine lv_istore_n (pc := 30) (lv' := [(3, .int u14), (0, .ref x0), (1, .int x1), (2, .int x2)]) hx hb dX0_child_30 rfl hl (by decide) rfl (fun ls hl => ?_)
      refine lv_iload_n (pc := 31) hx hb dX0_child_31 rfl (lv_at hl 0 rfl) ?_
      refine lv_iconst (pc := 32) (v := (ii 4)) hx hb dX0_child_32 (by decide) ?_
      refine lv_icmp_ne (pc := 33) (tgt := 43) hx hb dX0_child_33 (by decide) (fun c15 => ?_) (fun c15 => ?_)
      · replace hf := if_f hf c15
        refine lv_aload_n (pc := 43) hx hb dX0_child_43 rfl (lv_at hl 1 rfl) ?_
        refine x_get (pc := 44) X V okX0 ht11 2 (by decide) q362 (v := va_rf (R x0 2)) rfl dX0_child_44 ?_
        refine x_topr ha12 ?_
        replace hf := bs hf; obtain ⟨a16, ha16, hf⟩ := hf
        refine x_getN (pc := 47) X V okX1 ht13 5 (by decide) q232 (v := va_rf (R a12 5)) rfl dX0_child_47 ?_
        refine x_topr ha16 ?_
        refine lv_iload_n (pc := 50) hx hb dX0_child_50 rfl (lv_at hl 0 rfl) ?_
        refine lv_iload_n (pc := 51) hx hb dX0_child_51 rfl (lv_at hl 2 rfl) ?_
        replace hf := rA_s hf; obtain ⟨j17, hjj17, htj17, hij17, hf⟩ := hf
        replace hf := nm_s hf; obtain ⟨I18, hI18, hf⟩ := hf
        refine x_iast (pc := 52) X V htj17 hij17 hjj17 hI18 dX0_child_52 (fun H locs V => ?_)
        refine lv_aload_n (pc := 53) hx hb dX0_child_53 rfl (lv_at hl 1 rfl) ?_
        replace hf := bs hf; obtain ⟨r19, hk_20, hf⟩ := hf
        refine x_callV0 (pc := 54) (As := []) (rest := []) X V (mX0_table l D dA s0 hk_20) okX0 ht11 q568 q570 qs6 q119 q571 ⟨rfl, hsX0_table⟩ ⟨Nat.le_of_ble_eq_true rfl, Nat.le_of_ble_eq_true rfl⟩ rfl hl.1 rfl (Nat.le_of_ble_eq_true rfl) dX0_child_54 ⟨Nat.zero_le _, Nat.zero_le _⟩ (fun H locs V => W.eq (g2 := F0 m 57 ls [.ref r19]) rfl ?_)
        replace hf := tg_s hf; obtain ⟨ht21, hf⟩ := hf
        replace hf := bs hf; obtain ⟨a22, ha22, hf⟩ := hf
        refine x_getN (pc := 57) X V okX2 ht21 0 (by decide) q176 (v := va_rf (R r19 0)) rfl dX0_child_57 ?_
        refine x_topr ha22 ?_
        refine lv_iload_n (pc := 60) hx hb dX0_child_60 rfl (lv_at hl 0 rfl) ?_
        refine lv_iload_n (pc := 61) hx hb dX0_child_61 rfl (lv_at hl 3 rfl) ?_
        replace hf := rA_s hf; obtain ⟨j23, hjj23, htj23, hij23, hf⟩ := hf
        replace hf := nm_s hf; obtain ⟨I24, hI24, hf⟩ := hf
        refine x_iast (pc := 62) X V htj23 hij23 hjj23 hI24 dX0_child_62 (fun H locs V => ?_)
        refine lv_aload_n (pc := 63) hx hb dX0_child_63 rfl (lv_at hl 1 rfl) ?_
        replace hf := bs hf; obtain ⟨r25, hk_26, hf⟩ := hf
        refine x_callV0 (pc := 64) (As := []) (rest := []) X V (mX0_table l D dA s0 hk_26) okX0 ht11 q568 q570 qs6 q119 q571 ⟨rfl, hsX0_table⟩ ⟨Nat.le_of_ble_eq_true rfl, Nat.le_of_ble_eq_true rfl⟩ rfl hl.1 rfl (Nat.le_of_ble_eq_true rfl) dX0_child_64 ⟨Nat.zero_le _, Nat.zero_le _⟩ (fun H locs V => W.eq (g2 := F0 m 67 ls [.ref r25]) rfl ?_)
        replace hf := tg_s hf; obtain ⟨ht27, hf⟩ := hf
        replace hf := bs hf; obtain ⟨a28, ha28, hf⟩ := hf
        refine x_getN (pc := 67) X V okX2 ht27 1 (by decide) q178 (v := va_rf (R r25 1)) rfl dX0_child_67 ?_
        refine x_topr ha28 ?_
        refine lv_iload_n (pc := 70) hx hb dX0_child_70 rfl (lv_at hl 0 rfl) ?_
        refine lv_iconst (pc := 71) (v := (-1 : Int32)) hx hb dX0_child_71 (by decide) ?_
        replace hf := rA_s hf; obtain ⟨j29, hjj29, htj29, hij29, hf⟩ := hf
        replace hf := nm_s hf; obtain ⟨I30, hI30, hf⟩ := hf
        refine x_iast (pc := 72) X V htj29 hij29 hjj29 hI30 dX0_child_72 (fun H locs V => ?_)
        refine lv_aload_n (pc := 73) hx hb dX0_child_73 rfl (lv_at hl 1 rfl) ?_
        refine x_get (pc := 74) X V okX0 ht11 2 (by decide) q362 (v := va_rf (R x0 2)) rfl dX0_child_74 ?_
        refine x_topr ha12 ?_
        refine lv_dup (pc := 77) hx hb dX0_child_77 rfl ?_
        refine x_getN (pc := 78) X V okX1 ht13 9 (by decide) q240 (v := .int (I30 a12 9)) rfl dX0_child_78 ?_
        refine lv_iconst (pc := 81) (v := (ii 1)) hx hb dX0_child_81 (by decide) ?_
        refine lv_iadd (pc := 82) hx hb dX0_child_82 ?_
        replace hf := nm_s hf; obtain ⟨I31, hI31, hf⟩ := hf
        refine x_putNi (pc := 83) X V okX1 (by decide) ht13 9 (by decide) q240 rfl hI31 (fun _ _ _ => rfl) rfl rfl dX0_child_83 (fun H locs V => ?_)
        refine lv_aload_n (pc := 86) hx hb dX0_child_86 rfl (lv_at hl 1 rfl) ?_
        refine lv_iload_n (pc := 87) hx hb dX0_child_87 rfl (lv_at hl 0 rfl) ?_
        replace hf := b2s hf; obtain ⟨r32, I33, hk_34, hf⟩ := hf
        refine x_callV0 (pc := 88) (As := [.int u14]) (rest := []) X V (mX0_settled l D dA s0 hk_34) okX0 ht11 q550 q552 qs4 q119 q553 ⟨rfl, hsX0_settled⟩ ⟨Nat.le_of_ble_eq_true rfl, Nat.le_of_ble_eq_true rfl⟩ rfl hl.1 rfl (Nat.le_of_ble_eq_true rfl) dX0_child_88 ⟨Nat.zero_le _, Nat.zero_le _⟩ (fun H locs V => W.eq (g2 := F0 m 91 ls [.int r32]) rfl ?_)
        cases hf
        exact x_iret (pc := 91) X V hr dX0_child_91
      · replace hf := if_t hf c15
        refine lv_aload_n (pc := 36) hx hb dX0_child_36 rfl (lv_at hl 1 rfl) ?_
        refine lv_bipush (pc := 37) (v := (-5 : Int32)) hx hb dX0_child_37 (by decide) ?_
        replace hf := b2s hf; obtain ⟨r35, I36, hk_37, hf⟩ := hf
        refine x_callV0 (pc := 39) (As := [.int (-5 : Int32)]) (rest := []) X V (mX0_refuse l D dA s0 hk_37) okX0 ht11 q452 q454 qs1 q119 q455 ⟨rfl, hsX0_refuse⟩ ⟨Nat.le_of_ble_eq_true rfl, Nat.le_of_ble_eq_true rfl⟩ rfl hl.1 rfl (Nat.le_of_ble_eq_true rfl) dX0_child_39 ⟨Nat.zero_le _, Nat.zero_le _⟩ (fun H locs V => W.eq (g2 := F0 m 42 ls [.int r35]) rfl ?_)
        cases hf
        exact x_iret (pc := 42) X V hr dX0_child_42
    · replace hf := if_t hf c10
      refine lv_aload_n (pc := 17) hx hb dX0_child_17 rfl (lv_at hl 0 rfl) ?_
      refine lv_iconst (pc := 18) (v := (-1 : Int32)) hx hb dX0_child_18 (by decide) ?_
      replace hf := tg_s hf; obtain ⟨ht41, hf⟩ := hf
      replace hf := b2s hf; obtain ⟨r38, I39, hk_40, hf⟩ := hf
      refine x_callV0 (pc := 19) (As := [.int (-1 : Int32)]) (rest := []) X V (mX0_refuse l D dA s0 hk_40) okX0 ht41 q452 q454 qs1 q119 q455 ⟨rfl, hsX0_refuse⟩ ⟨Nat.le_of_ble_eq_true rfl, Nat.le_of_ble_eq_true rfl⟩ rfl hl.1 rfl (Nat.le_of_ble_eq_true rfl) dX0_child_19 ⟨Nat.zero_le _, Nat.zero_le _⟩ (fun H locs V => W.eq (g2 := F0 m 22 ls [.int r38]) rfl ?_)
      cases hf
      exact x_iret (pc := 22) X V hr dX0_child_22
theorem mX0_child (l : Launch) (D : va_G) (dA : Nat → ClassId) (s0 : Nat) {T : xT} {N : xT} {Z : Nat} {I : xI} {L : xL} {R : xR} {x0 : Nat} {x1 : Int32} {x2 : Int32} {ro : Int32} {Io : xI} (hf : fX0_child T N I R x0 x1 x2 = some (ro, Io)) : XMet l D dA s0 yX0_child (ws_ yX0_child cX0_child 4 ((some .int))) (2) (42) [.ref x0, .int x1, .int x2] T N Z I L R (some (.int ro)) T N Z Io L R 0 0 :=
  x_start (own := RX0) rfl (by decide) (Nat.le_of_ble_eq_true rfl) (lv := [(0, .ref x0), (1, .int x1), (2, .int x2)]) rfl (fun p e s m below meth c ls X hr hini V hl => wX0_child_e X hr hf V hl)
set_option maxHeartbeats 400000 in
set_option maxRecDepth 100000 in
theorem wX0_isChild_e {p : Program} {l : Launch} {e : Env} {s : State} {m : MethodId} {args : Array Value} {below : List Frame} {meth : Method} {c : Code} {D : va_G} {dA : Nat → ClassId} {s0 : Nat} {T : xT} {N : xT} {Z : Nat} {I : xI} {L : xL} {R : xR} {H : Heap} {locs : List Loc} {ls : Array Slot} {x0 : Nat} {x1 : Int32} {ro : Int32} (X : Cx D dA s0 p m c cX0_isChild 2 s args RX0 meth) (hr : meth.sig.returnType = (some .boolean)) (hf : fX0_isChild T I R x0 x1 = some ro) (V : Iv D dA s0 s T N Z I L R H locs) (hl : lv_has ls 2 [(0, .ref x0), (1, .int x1)]) : W p l e { frames := 1, cells := 0, slots := 0, locals := 22 } s m args below meth c H locs 0 0 (MQ below (xQ D dA s0 (some (.int ro)) T N Z I L R) args s 0 0 (fun q => s0 ≤ q)) (F0 m 0 ls []) := by
  have hx := X.1.1
  have hb := X.1.2.1
  unfold fX0_isChild at hf
  refine lv_iload_n (pc := 0) hx hb dX0_isChild_0 rfl (lv_at hl 1 rfl) ?_
  refine lv_iconst (pc := 1) (v := (ii 0)) hx hb dX0_isChild_1 (by decide) ?_
  refine lv_aload_n (pc := 2) hx hb dX0_isChild_2 rfl (lv_at hl 0 rfl) ?_
  replace hf := tg_s hf; obtain ⟨ht1, hf⟩ := hf
  replace hf := bs hf; obtain ⟨a2, ha2, hf⟩ := hf
  refine x_get (pc := 3) X V okX0 ht1 2 (by decide) q362 (v := va_rf (R x0 2)) rfl dX0_isChild_3 ?_
  refine x_topr ha2 ?_
  replace hf := tg_s hf; obtain ⟨ht3, hf⟩ := hf
  refine x_getN (pc := 6) X V okX1 ht3 9 (by decide) q240 (v := .int (I a2 9)) rfl dX0_isChild_6 ?_
  refine lv_iconst (pc := 9) (v := (ii 1)) hx hb dX0_isChild_9 (by decide) ?_
  refine lv_isub (pc := 10) hx hb dX0_isChild_10 ?_
  replace hf := bs hf; obtain ⟨r4, hk_5, hf⟩ := hf
  refine x_callS0 (pc := 11) (As := [.int x1, .int (ii 0), .int ((I a2 9) - (ii 1))]) (rest := []) X V (mX0_in l D dA s0 hk_5) q449 q450 q119 q451 hsX0_in ⟨Nat.le_of_ble_eq_true rfl, Nat.le_of_ble_eq_true rfl⟩ rfl hl.1 rfl (Nat.le_of_ble_eq_true rfl) dX0_isChild_11 ⟨Nat.zero_le _, Nat.zero_le _⟩ (fun H locs V => W.eq (g2 := F0 m 14 ls [.int r4]) rfl ?_)
  replace hf := chk_s hf; obtain ⟨hz6, hf⟩ := hf
  cases hf
  exact x_zret (pc := 14) X V hr hz6 dX0_isChild_14
theorem mX0_isChild (l : Launch) (D : va_G) (dA : Nat → ClassId) (s0 : Nat) {T : xT} {N : xT} {Z : Nat} {I : xI} {L : xL} {R : xR} {x0 : Nat} {x1 : Int32} {ro : Int32} (hf : fX0_isChild T I R x0 x1 = some ro) : XMet l D dA s0 yX0_isChild (ws_ yX0_isChild cX0_isChild 2 ((some .boolean))) (1) (22) [.ref x0, .int x1] T N Z I L R (some (.int ro)) T N Z I L R 0 0 :=
  x_start (own := RX0) rfl (by decide) (Nat.le_of_ble_eq_true rfl) (lv := [(0, .ref x0), (1, .int x1)]) rfl (fun p e s m below meth c ls X hr hini V hl => wX0_isChild_e X hr hf V hl)
set_option maxHeartbeats 400000 in
set_option maxRecDepth 100000 in
theorem wX0_told_b104 {nf : Nat} {p : Program} {l : Launch} {e : Env} {s : State} {m : MethodId} {args : Array Value} {below : List Frame} {meth : Method} {c : Code} {D : va_G} {dA : Nat → ClassId} {s0 : Nat} {T : xT} {N : xT} {Z : Nat} {I : xI} {L : xL} {R : xR} {H : Heap} {locs : List Loc} {ls : Array Slot}  {x0 : Nat} {x1 : Int32} {x2 : Nat} {x3 : Int32} {x5 : Nat} {z0 : Nat} {z1 : Int32} {z2 : Int64} {ro : Int64} {Lo : xL} (X : Cx D dA s0 p m c cX0_told 6 s args RX0 meth) (hr : meth.sig.returnType = (some .long))   (hf : fX0_told_b104 nf T N I L R x0 x1 x2 x3 x5 z0 z1 z2 = some (ro, Lo)) (V : Iv D dA s0 s T N Z I L R H locs) (hl : lv_has ls 6 [(0, .ref x0), (1, .int x1), (2, .ref x2), (3, .int x3), (5, .ref x5)]) : W p l e { frames := 191, cells := 0, slots := 0, locals := 9357 } s m args below meth c H locs 0 0 (MQ below (xQ D dA s0 (some (.long ro)) T N Z I Lo R) args s 0 0 (fun q => s0 ≤ q)) (F0 m 104 ls [.long z2, .int z1, .ref z0]) := by
  have hx := X.1.1
  have hb := X.1.2.1
  unfold fX0_told_b104 at hf
  replace hf := rA_s hf; obtain ⟨j1, hjj1, htj1, hij1, hf⟩ := hf
  replace hf := nm_s hf; obtain ⟨L2, hL2, hf⟩ := hf
  refine x_last (pc := 104) X V htj1 hij1 hjj1 hL2 dX0_told_104 (fun H locs V => ?_)
  refine lv_aload (pc := 105) hx hb dX0_told_105 (lv_at hl 4 rfl) ?_
  refine lv_iconst (pc := 107) (v := (ii 5)) hx hb dX0_told_107 (by decide) ?_
  refine lv_aload_n (pc := 108) hx hb dX0_told_108 rfl (lv_at hl 2 rfl) ?_
  replace hf := tg_s hf; obtain ⟨ht3, hf⟩ := hf
  replace hf := bs hf; obtain ⟨a4, ha4, hf⟩ := hf
  refine x_getN (pc := 109) X V okX2 ht3 0 (by decide) q176 (v := va_rf (R x2 0)) rfl dX0_told_109 ?_
  refine x_topr ha4 ?_
  refine lv_iload_n (pc := 112) hx hb dX0_told_112 rfl (lv_at hl 3 rfl) ?_
  replace hf := rA_s hf; obtain ⟨j5, hjj5, htj5, hij5, hf⟩ := hf
  refine x_iald (pc := 113) X V htj5 hij5 hjj5 dX0_told_113 ?_
  refine lv_i2l (pc := 114) hx hb dX0_told_114 rfl ?_
  replace hf := rA_s hf; obtain ⟨j6, hjj6, htj6, hij6, hf⟩ := hf
  replace hf := nm_s hf; obtain ⟨L7, hL7, hf⟩ := hf
  refine x_last (pc := 115) X V htj6 hij6 hjj6 hL7 dX0_told_115 (fun H locs V => ?_)
  refine lv_aload (pc := 116) hx hb dX0_told_116 (lv_at hl 4 rfl) ?_
  refine lv_bipush (pc := 118) (v := (ii 6)) hx hb dX0_told_118 (by decide) ?_
  refine lv_aload_n (pc := 120) hx hb dX0_told_120 rfl (lv_at hl 2 rfl) ?_
  replace hf := bs hf; obtain ⟨a8, ha8, hf⟩ := hf
  refine x_getN (pc := 121) X V okX2 ht3 1 (by decide) q178 (v := va_rf (R x2 1)) rfl dX0_told_121 ?_
  refine x_topr ha8 ?_
  refine lv_iload_n (pc := 124) hx hb dX0_told_124 rfl (lv_at hl 3 rfl) ?_
  replace hf := rA_s hf; obtain ⟨j9, hjj9, htj9, hij9, hf⟩ := hf
  refine x_iald (pc := 125) X V htj9 hij9 hjj9 dX0_told_125 ?_
  refine lv_i2l (pc := 126) hx hb dX0_told_126 rfl ?_
  replace hf := rA_s hf; obtain ⟨j10, hjj10, htj10, hij10, hf⟩ := hf
  replace hf := nm_s hf; obtain ⟨L11, hL11, hf⟩ := hf
  refine x_last (pc := 127) X V htj10 hij10 hjj10 hL11 dX0_told_127 (fun H locs V => ?_)
  refine lv_aload (pc := 128) hx hb dX0_told_128 (lv_at hl 4 rfl) ?_
  refine lv_bipush (pc := 130) (v := (ii 7)) hx hb dX0_told_130 (by decide) ?_
  refine lv_aload_n (pc := 132) hx hb dX0_told_132 rfl (lv_at hl 2 rfl) ?_
  refine x_getN (pc := 133) X V okX2 ht3 3 (by decide) q182 (v := .int (I x2 3)) rfl dX0_told_133 ?_
  refine lv_i2l (pc := 136) hx hb dX0_told_136 rfl ?_
  replace hf := rA_s hf; obtain ⟨j12, hjj12, htj12, hij12, hf⟩ := hf
  replace hf := nm_s hf; obtain ⟨L13, hL13, hf⟩ := hf
  refine x_last (pc := 137) X V htj12 hij12 hjj12 hL13 dX0_told_137 (fun H locs V => ?_)
  refine lv_aload (pc := 138) hx hb dX0_told_138 (lv_at hl 4 rfl) ?_
  refine lv_bipush (pc := 140) (v := (ii 8)) hx hb dX0_told_140 (by decide) ?_
  refine lv_aload_n (pc := 142) hx hb dX0_told_142 rfl (lv_at hl 0 rfl) ?_
  replace hf := tg_s hf; obtain ⟨ht14, hf⟩ := hf
  replace hf := bs hf; obtain ⟨a15, ha15, hf⟩ := hf
  refine x_get (pc := 143) X V okX0 ht14 2 (by decide) q362 (v := va_rf (R x0 2)) rfl dX0_told_143 ?_
  refine x_topr ha15 ?_
  replace hf := tg_s hf; obtain ⟨ht16, hf⟩ := hf
  refine x_getN (pc := 146) X V okX1 ht16 12 (by decide) q246 (v := .int (I a15 12)) rfl dX0_told_146 ?_
  refine lv_i2l (pc := 149) hx hb dX0_told_149 rfl ?_
  replace hf := rA_s hf; obtain ⟨j17, hjj17, htj17, hij17, hf⟩ := hf
  replace hf := nm_s hf; obtain ⟨L18, hL18, hf⟩ := hf
  refine x_last (pc := 150) X V htj17 hij17 hjj17 hL18 dX0_told_150 (fun H locs V => ?_)
  refine lv_aload_n (pc := 151) hx hb dX0_told_151 rfl (lv_at hl 0 rfl) ?_
  refine x_get (pc := 152) X V okX0 ht14 2 (by decide) q362 (v := va_rf (R x0 2)) rfl dX0_told_152 ?_
  refine x_topr ha15 ?_
  replace hf := bs hf; obtain ⟨a19, ha19, hf⟩ := hf
  refine x_getN (pc := 155) X V okX1 ht16 7 (by decide) q236 (v := va_rf (R a15 7)) rfl dX0_told_155 ?_
  refine x_topr ha19 ?_
  refine lv_aload_n (pc := 158) hx hb dX0_told_158 rfl (lv_at hl 0 rfl) ?_
  refine x_get (pc := 159) X V okX0 ht14 2 (by decide) q362 (v := va_rf (R x0 2)) rfl dX0_told_159 ?_
  refine x_topr ha15 ?_
  refine x_getN (pc := 162) X V okX1 ht16 13 (by decide) q248 (v := .int (I a15 13)) rfl dX0_told_162 ?_
  replace hf := tg_s hf; obtain ⟨ht22, hf⟩ := hf
  replace hf := bs hf; obtain ⟨r20, hk_21, hf⟩ := hf
  refine x_callV0 (pc := 165) (As := [.int (I a15 13)]) (rest := []) X V (mJ2_get l D dA s0 hk_21) okJ2 ht22 q602 q603 q604 q124 q605 ⟨rfl, hsJ2_get⟩ ⟨Nat.le_of_ble_eq_true rfl, Nat.le_of_ble_eq_true rfl⟩ rfl hl.1 rfl (Nat.le_of_ble_eq_true rfl) dX0_told_165 ⟨Nat.zero_le _, Nat.zero_le _⟩ (fun H locs V => W.eq (g2 := F0 m 168 ls [.ref r20]) rfl ?_)
  replace hf := tg_s hf; obtain ⟨ht23, hf⟩ := hf
  refine x_castS (pc := 168) X V okX19 ht23 q616 dX0_told_168 ?_
  refine lv_iload_n (pc := 171) hx hb dX0_told_171 rfl (lv_at hl 1 rfl) ?_
  refine lv_aload_n (pc := 172) hx hb dX0_told_172 rfl (lv_at hl 0 rfl) ?_
  replace hf := bs hf; obtain ⟨a24, ha24, hf⟩ := hf
  refine x_get (pc := 173) X V okX0 ht14 16 (by decide) q376 (v := va_rf (R x0 16)) rfl dX0_told_173 ?_
  refine x_topr ha24 ?_
  replace hf := bs hf; obtain ⟨r25, hk_26, hf⟩ := hf
  refine x_callV0 (pc := 176) (As := [.int x1, .ref a24]) (rest := []) X V (mX19_told l D dA s0 hk_26) okX19 ht23 q617 q618 q619 q152 q620 ⟨rfl, hsX19_told⟩ ⟨Nat.le_of_ble_eq_true rfl, Nat.le_of_ble_eq_true rfl⟩ rfl hl.1 rfl (Nat.le_of_ble_eq_true rfl) dX0_told_176 ⟨Nat.zero_le _, Nat.zero_le _⟩ (fun H locs V => W.eq (g2 := F0 m 179 ls [.long r25]) rfl ?_)
  cases hf
  exact x_lret (pc := 179) X V hr dX0_told_179
set_option maxHeartbeats 400000 in
set_option maxRecDepth 100000 in
theorem wX0_told_b77 {nf : Nat} {p : Program} {l : Launch} {e : Env} {s : State} {m : MethodId} {args : Array Value} {below : List Frame} {meth : Method} {c : Code} {D : va_G} {dA : Nat → ClassId} {s0 : Nat} {T : xT} {N : xT} {Z : Nat} {I : xI} {L : xL} {R : xR} {H : Heap} {locs : List Loc} {ls : Array Slot}  {x0 : Nat} {x1 : Int32} {x2 : Nat} {x3 : Int32} {x4 : Int32} {x5 : Nat} {z0 : Nat} {z1 : Int32} {z2 : Int64} {ro : Int64} {Lo : xL} (X : Cx D dA s0 p m c cX0_told 6 s args RX0 meth) (hr : meth.sig.returnType = (some .long))   (hf : fX0_told_b77 nf T N I L R x0 x1 x2 x3 x4 x5 z0 z1 z2 = some (ro, Lo)) (V : Iv D dA s0 s T N Z I L R H locs) (hl : lv_has ls 6 [(0, .ref x0), (1, .int x1), (2, .ref x2), (3, .int x3), (4, .int x4), (5, .ref x5)]) : W p l e { frames := 191, cells := 0, slots := 0, locals := 9357 } s m args below meth c H locs 0 0 (MQ below (xQ D dA s0 (some (.long ro)) T N Z I Lo R) args s 0 0 (fun q => s0 ≤ q)) (F0 m 77 ls [.long z2, .int z1, .ref z0]) := by
  have hx := X.1.1
  have hb := X.1.2.1
  unfold fX0_told_b77 at hf
  replace hf := rA_s hf; obtain ⟨j1, hjj1, htj1, hij1, hf⟩ := hf
  replace hf := nm_s hf; obtain ⟨L2, hL2, hf⟩ := hf
  refine x_last (pc := 77) X V htj1 hij1 hjj1 hL2 dX0_told_77 (fun H locs V => ?_)
  refine lv_aload (pc := 78) hx hb dX0_told_78 (lv_at hl 5 rfl) ?_
  refine lv_iconst (pc := 80) (v := (ii 4)) hx hb dX0_told_80 (by decide) ?_
  refine lv_iload (pc := 81) hx hb dX0_told_81 (lv_at hl 4 rfl) ?_
  refine lv_iconst (pc := 83) (v := (-1 : Int32)) hx hb dX0_told_83 (by decide) ?_
  refine lv_icmp_ne (pc := 84) (tgt := 93) hx hb dX0_told_84 (by decide) (fun c3 => ?_) (fun c3 => ?_)
  · replace hf := if_f hf c3
    refine lv_aload_n (pc := 93) hx hb dX0_told_93 rfl (lv_at hl 0 rfl) ?_
    replace hf := tg_s hf; obtain ⟨ht4, hf⟩ := hf
    replace hf := bs hf; obtain ⟨a5, ha5, hf⟩ := hf
    refine x_get (pc := 94) X V okX0 ht4 2 (by decide) q362 (v := va_rf (R x0 2)) rfl dX0_told_94 ?_
    refine x_topr ha5 ?_
    replace hf := tg_s hf; obtain ⟨ht6, hf⟩ := hf
    replace hf := bs hf; obtain ⟨a7, ha7, hf⟩ := hf
    refine x_getN (pc := 97) X V okX1 ht6 4 (by decide) q230 (v := va_rf (R a5 4)) rfl dX0_told_97 ?_
    refine x_topr ha7 ?_
    refine lv_iload (pc := 100) hx hb dX0_told_100 (lv_at hl 4 rfl) ?_
    replace hf := rA_s hf; obtain ⟨j8, hjj8, htj8, hij8, hf⟩ := hf
    refine x_iald (pc := 102) X V htj8 hij8 hjj8 dX0_told_102 ?_
    refine lv_i2l (pc := 103) hx hb dX0_told_103 rfl ?_
    exact wX0_told_b104 X hr hf V (lv_sub hl [0, 1, 2, 3, 5] rfl)
  · replace hf := if_t hf c3
    refine lv_ldc2 (pc := 87) (v := (-1 : Int64)) hx hb X.1.2.2.2.1 (X.1.2.2.2.2 _ q601) dX0_told_87 ?_
    refine lv_goto (pc := 90) (tgt := 104) hx hb dX0_told_90 (by decide) ?_
    exact wX0_told_b104 X hr hf V (lv_sub hl [0, 1, 2, 3, 5] rfl)
set_option maxHeartbeats 400000 in
set_option maxRecDepth 100000 in
theorem wX0_told_e {nf : Nat} {p : Program} {l : Launch} {e : Env} {s : State} {m : MethodId} {args : Array Value} {below : List Frame} {meth : Method} {c : Code} {D : va_G} {dA : Nat → ClassId} {s0 : Nat} {T : xT} {N : xT} {Z : Nat} {I : xI} {L : xL} {R : xR} {H : Heap} {locs : List Loc} {ls : Array Slot} {x0 : Nat} {x1 : Int32} {x2 : Nat} {x3 : Int32} {x4 : Int32} {ro : Int64} {Lo : xL} (X : Cx D dA s0 p m c cX0_told 6 s args RX0 meth) (hr : meth.sig.returnType = (some .long)) (hf : fX0_told nf T N I L R x0 x1 x2 x3 x4 = some (ro, Lo)) (V : Iv D dA s0 s T N Z I L R H locs) (hl : lv_has ls 6 [(0, .ref x0), (1, .int x1), (2, .ref x2), (3, .int x3), (4, .int x4)]) : W p l e { frames := 191, cells := 0, slots := 0, locals := 9357 } s m args below meth c H locs 0 0 (MQ below (xQ D dA s0 (some (.long ro)) T N Z I Lo R) args s 0 0 (fun q => s0 ≤ q)) (F0 m 0 ls []) := by
  have hx := X.1.1
  have hb := X.1.2.1
  unfold fX0_told at hf
  refine lv_aload_n (pc := 0) hx hb dX0_told_0 rfl (lv_at hl 0 rfl) ?_
  replace hf := tg_s hf; obtain ⟨ht1, hf⟩ := hf
  replace hf := bs hf; obtain ⟨a2, ha2, hf⟩ := hf
  refine x_get (pc := 1) X V okX0 ht1 2 (by decide) q362 (v := va_rf (R x0 2)) rfl dX0_told_1 ?_
  refine x_topr ha2 ?_
  replace hf := tg_s hf; obtain ⟨ht3, hf⟩ := hf
  refine x_getN (pc := 4) X V okX1 ht3 13 (by decide) q248 (v := .int (I a2 13)) rfl dX0_told_4 ?_
  refine lv_iconst (pc := 7) (v := (-1 : Int32)) hx hb dX0_told_7 (by decide) ?_
  refine lv_icmp_ne (pc := 8) (tgt := 15) hx hb dX0_told_8 (by decide) (fun c4 => ?_) (fun c4 => ?_)
  · replace hf := if_f hf c4
    refine lv_aload_n (pc := 15) hx hb dX0_told_15 rfl (lv_at hl 0 rfl) ?_
    replace hf := bs hf; obtain ⟨a5, ha5, hf⟩ := hf
    refine x_get (pc := 16) X V okX0 ht1 16 (by decide) q376 (v := va_rf (R x0 16)) rfl dX0_told_16 ?_
    refine x_topr ha5 ?_
    replace hf := tg_s hf; obtain ⟨ht6, hf⟩ := hf
    replace hf := bs hf; obtain ⟨a7, ha7, hf⟩ := hf
    refine x_getN (pc := 19) X V okX3 ht6 1 (by decide) q353 (v := va_rf (R a5 1)) rfl dX0_told_19 ?_
    refine x_topr ha7 ?_
    refine lv_astore (pc := 22) (lv' := [(5, .ref a7), (0, .ref x0), (1, .int x1), (2, .ref x2), (3, .int x3), (4, .int x4)]) hx hb dX0_told_22 hl (by decide) rfl (fun ls hl => ?_)
    refine lv_aload (pc := 24) hx hb dX0_told_24 (lv_at hl 0 rfl) ?_
    refine lv_iconst (pc := 26) (v := (ii 0)) hx hb dX0_told_26 (by decide) ?_
    refine lv_iload_n (pc := 27) hx hb dX0_told_27 rfl (lv_at hl 4 rfl) ?_
    refine lv_i2l (pc := 28) hx hb dX0_told_28 rfl ?_
    replace hf := rA_s hf; obtain ⟨j8, hjj8, htj8, hij8, hf⟩ := hf
    replace hf := nm_s hf; obtain ⟨L9, hL9, hf⟩ := hf
    refine x_last (pc := 29) X V htj8 hij8 hjj8 hL9 dX0_told_29 (fun H locs V => ?_)
    refine lv_aload (pc := 30) hx hb dX0_told_30 (lv_at hl 0 rfl) ?_
    refine lv_iconst (pc := 32) (v := (ii 1)) hx hb dX0_told_32 (by decide) ?_
    refine lv_aload_n (pc := 33) hx hb dX0_told_33 rfl (lv_at hl 1 rfl) ?_
    refine x_get (pc := 34) X V okX0 ht1 2 (by decide) q362 (v := va_rf (R x0 2)) rfl dX0_told_34 ?_
    refine x_topr ha2 ?_
    replace hf := bs hf; obtain ⟨a10, ha10, hf⟩ := hf
    refine x_getN (pc := 37) X V okX1 ht3 5 (by decide) q232 (v := va_rf (R a2 5)) rfl dX0_told_37 ?_
    refine x_topr ha10 ?_
    refine lv_iload_n (pc := 40) hx hb dX0_told_40 rfl (lv_at hl 4 rfl) ?_
    replace hf := rA_s hf; obtain ⟨j11, hjj11, htj11, hij11, hf⟩ := hf
    refine x_iald (pc := 41) X V htj11 hij11 hjj11 dX0_told_41 ?_
    refine lv_i2l (pc := 42) hx hb dX0_told_42 rfl ?_
    replace hf := rA_s hf; obtain ⟨j12, hjj12, htj12, hij12, hf⟩ := hf
    replace hf := nm_s hf; obtain ⟨L13, hL13, hf⟩ := hf
    refine x_last (pc := 43) X V htj12 hij12 hjj12 hL13 dX0_told_43 (fun H locs V => ?_)
    refine lv_aload (pc := 44) hx hb dX0_told_44 (lv_at hl 0 rfl) ?_
    refine lv_iconst (pc := 46) (v := (ii 2)) hx hb dX0_told_46 (by decide) ?_
    refine lv_iload (pc := 47) hx hb dX0_told_47 (lv_at hl 5 rfl) ?_
    refine lv_i2l (pc := 49) hx hb dX0_told_49 rfl ?_
    replace hf := rA_s hf; obtain ⟨j14, hjj14, htj14, hij14, hf⟩ := hf
    replace hf := nm_s hf; obtain ⟨L15, hL15, hf⟩ := hf
    refine x_last (pc := 50) X V htj14 hij14 hjj14 hL15 dX0_told_50 (fun H locs V => ?_)
    refine lv_aload (pc := 51) hx hb dX0_told_51 (lv_at hl 0 rfl) ?_
    refine lv_iconst (pc := 53) (v := (ii 3)) hx hb dX0_told_53 (by decide) ?_
    refine lv_iload (pc := 54) hx hb dX0_told_54 (lv_at hl 5 rfl) ?_
    refine lv_iconst (pc := 56) (v := (-1 : Int32)) hx hb dX0_told_56 (by decide) ?_
    refine lv_icmp_ne (pc := 57) (tgt := 66) hx hb dX0_told_57 (by decide) (fun c16 => ?_) (fun c16 => ?_)
    · replace hf := if_f hf c16
      refine lv_aload_n (pc := 66) hx hb dX0_told_66 rfl (lv_at hl 1 rfl) ?_
      refine x_get (pc := 67) X V okX0 ht1 2 (by decide) q362 (v := va_rf (R x0 2)) rfl dX0_told_67 ?_
      refine x_topr ha2 ?_
      replace hf := bs hf; obtain ⟨a17, ha17, hf⟩ := hf
      refine x_getN (pc := 70) X V okX1 ht3 3 (by decide) q228 (v := va_rf (R a2 3)) rfl dX0_told_70 ?_
      refine x_topr ha17 ?_
      refine lv_iload (pc := 73) hx hb dX0_told_73 (lv_at hl 5 rfl) ?_
      replace hf := rA_s hf; obtain ⟨j18, hjj18, htj18, hij18, hf⟩ := hf
      refine x_iald (pc := 75) X V htj18 hij18 hjj18 dX0_told_75 ?_
      refine lv_i2l (pc := 76) hx hb dX0_told_76 rfl ?_
      exact wX0_told_b77 X hr hf V (lv_sub hl [1, 2, 3, 4, 5, 0] rfl)
    · replace hf := if_t hf c16
      refine lv_ldc2 (pc := 60) (v := (-1 : Int64)) hx hb X.1.2.2.2.1 (X.1.2.2.2.2 _ q601) dX0_told_60 ?_
      refine lv_goto (pc := 63) (tgt := 77) hx hb dX0_told_63 (by decide) ?_
      exact wX0_told_b77 X hr hf V (lv_sub hl [1, 2, 3, 4, 5, 0] rfl)
  · replace hf := if_t hf c4
    refine lv_ldc2 (pc := 11) (v := (-4000000000 : Int64)) hx hb X.1.2.2.2.1 (X.1.2.2.2.2 _ q600) dX0_told_11 ?_
    cases hf
    exact x_lret (pc := 14) X V hr dX0_told_14
theorem mX0_told {nf : Nat} (l : Launch) (D : va_G) (dA : Nat → ClassId) (s0 : Nat) {T : xT} {N : xT} {Z : Nat} {I : xI} {L : xL} {R : xR} {x0 : Nat} {x1 : Int32} {x2 : Nat} {x3 : Int32} {x4 : Int32} {ro : Int64} {Lo : xL} (hf : fX0_told nf T N I L R x0 x1 x2 x3 x4 = some (ro, Lo)) : XMet l D dA s0 yX0_told (ws_ yX0_told cX0_told 6 ((some .long))) (191) (9357) [.ref x0, .int x1, .ref x2, .int x3, .int x4] T N Z I L R (some (.long ro)) T N Z I Lo R 0 0 :=
  x_start (own := RX0) rfl (by decide) (Nat.le_of_ble_eq_true rfl) (lv := [(0, .ref x0), (1, .int x1), (2, .ref x2), (3, .int x3), (4, .int x4)]) rfl (fun p e s m below meth c ls X hr hini V hl => wX0_told_e X hr hf V hl)
set_option maxHeartbeats 400000 in
set_option maxRecDepth 100000 in
theorem wX0_near_e {p : Program} {l : Launch} {e : Env} {s : State} {m : MethodId} {args : Array Value} {below : List Frame} {meth : Method} {c : Code} {D : va_G} {dA : Nat → ClassId} {s0 : Nat} {T : xT} {N : xT} {Z : Nat} {I : xI} {L : xL} {R : xR} {H : Heap} {locs : List Loc} {ls : Array Slot} {x0 : Int64} {x2 : Int32} {x3 : Int32} {ro : Int32} (X : Cx D dA s0 p m c cX0_near 4 s args RX0 meth) (hr : meth.sig.returnType = (some .int)) (hf : fX0_near x0 x2 x3 = some ro) (V : Iv D dA s0 s T N Z I L R H locs) (hl : lv_has ls 4 [(0, .long x0), (2, .int x2), (3, .int x3)]) : W p l e { frames := 1, cells := 0, slots := 0, locals := 23 } s m args below meth c H locs 0 0 (MQ below (xQ D dA s0 (some (.int ro)) T N Z I L R) args s 0 0 (fun q => s0 ≤ q)) (F0 m 0 ls []) := by
  have hx := X.1.1
  have hb := X.1.2.1
  unfold fX0_near at hf
  refine lv_iload_n (pc := 0) hx hb dX0_near_0 rfl (lv_at hl 1 rfl) ?_
  refine lv_i2l (pc := 1) hx hb dX0_near_1 rfl ?_
  refine lv_iload_n (pc := 2) hx hb dX0_near_2 rfl (lv_at hl 2 rfl) ?_
  refine lv_i2l (pc := 3) hx hb dX0_near_3 rfl ?_
  refine lv_lload_n (pc := 4) hx hb dX0_near_4 rfl (lv_at hl 0 rfl) ?_
  refine va_mmin_long (pc := 5) hx hb (X.1.2.2.1.trans hl.1.symm) X.1.2.2.2.1 (X.1.2.2.2.2 _ q673) (X.1.2.2.2.2 _ q674) (X.1.2.2.2.2 _ q132) (X.1.2.2.2.2 _ q675) (Nat.le_of_ble_eq_true rfl) (Nat.le_of_ble_eq_true rfl) (Nat.zero_le _) (Nat.zero_le _) dX0_near_5 ?_
  refine va_mmax_long (pc := 8) hx hb (X.1.2.2.1.trans hl.1.symm) X.1.2.2.2.1 (X.1.2.2.2.2 _ q676) (X.1.2.2.2.2 _ q677) (X.1.2.2.2.2 _ q132) (X.1.2.2.2.2 _ q678) (Nat.le_of_ble_eq_true rfl) (Nat.le_of_ble_eq_true rfl) (Nat.zero_le _) (Nat.zero_le _) dX0_near_8 ?_
  refine lv_l2i (pc := 11) hx hb dX0_near_11 rfl ?_
  cases hf
  exact x_iret (pc := 12) X V hr dX0_near_12
theorem mX0_near (l : Launch) (D : va_G) (dA : Nat → ClassId) (s0 : Nat) {T : xT} {N : xT} {Z : Nat} {I : xI} {L : xL} {R : xR} {x0 : Int64} {x2 : Int32} {x3 : Int32} {ro : Int32} (hf : fX0_near x0 x2 x3 = some ro) : XMet l D dA s0 yX0_near (ws_ yX0_near cX0_near 4 ((some .int))) (1) (23) [.long x0, .int x2, .int x3] T N Z I L R (some (.int ro)) T N Z I L R 0 0 :=
  x_start (own := RX0) rfl (by decide) (Nat.le_of_ble_eq_true rfl) (lv := [(0, .long x0), (2, .int x2), (3, .int x3)]) rfl (fun p e s m below meth c ls X hr hini V hl => wX0_near_e X hr hf V hl)
set_option maxHeartbeats 400000 in
set_option maxRecDepth 100000 in
theorem wX0_or_e {p : Program} {l : Launch} {e : Env} {s : State} {m : MethodId} {args : Array Value} {below : List Frame} {meth : Method} {c : Code} {D : va_G} {dA : Nat → ClassId} {s0 : Nat} {T : xT} {N : xT} {Z : Nat} {I : xI} {L : xL} {R : xR} {H : Heap} {locs : List Loc} {ls : Array Slot} {x0 : Int64} {x2 : Int32} {x3 : Int32} {ro : Int32} (X : Cx D dA s0 p m c cX0_or 4 s args RX0 meth) (hr : meth.sig.returnType = (some .int)) (hf : fX0_or x0 x2 x3 = some ro) (V : Iv D dA s0 s T N Z I L R H locs) (hl : lv_has ls 4 [(0, .long x0), (2, .int x2), (3, .int x3)]) : W p l e { frames := 2, cells := 0, slots := 0, locals := 46 } s m args below meth c H locs 0 0 (MQ below (xQ D dA s0 (some (.int ro)) T N Z I L R) args s 0 0 (fun q => s0 ≤ q)) (F0 m 0 ls []) := by
  have hx := X.1.1
  have hb := X.1.2.1
  unfold fX0_or at hf
  refine lv_lload_n (pc := 0) hx hb dX0_or_0 rfl (lv_at hl 0 rfl) ?_
  refine lv_ldc2 (pc := 1) (v := (-4000000000 : Int64)) hx hb X.1.2.2.2.1 (X.1.2.2.2.2 _ q600) dX0_or_1 ?_
  refine lc_ne (pc := 4) (tgt := 12) hx hb dX0_or_4 dX0_or_5 (by decide) (fun c1 => ?_) (fun c1 => ?_)
  · replace hf := if_f hf c1
    refine lv_lload_n (pc := 12) hx hb dX0_or_12 rfl (lv_at hl 0 rfl) ?_
    refine lv_iconst (pc := 13) (v := (ii 0)) hx hb dX0_or_13 (by decide) ?_
    refine lv_iload_n (pc := 14) hx hb dX0_or_14 rfl (lv_at hl 1 rfl) ?_
    replace hf := bs hf; obtain ⟨r2, hk_3, hf⟩ := hf
    refine x_callS0 (pc := 15) (As := [.long x0, .int (ii 0), .int x2]) (rest := []) X V (mX0_near l D dA s0 hk_3) q670 q671 q119 q672 hsX0_near ⟨Nat.le_of_ble_eq_true rfl, Nat.le_of_ble_eq_true rfl⟩ rfl hl.1 rfl (Nat.le_of_ble_eq_true rfl) dX0_or_15 ⟨Nat.zero_le _, Nat.zero_le _⟩ (fun H locs V => W.eq (g2 := F0 m 18 ls [.int r2]) rfl ?_)
    cases hf
    exact x_iret (pc := 18) X V hr dX0_or_18
  · replace hf := if_t hf c1
    refine lv_iload_n (pc := 8) hx hb dX0_or_8 rfl (lv_at hl 2 rfl) ?_
    refine lv_goto (pc := 9) (tgt := 18) hx hb dX0_or_9 (by decide) ?_
    cases hf
    exact x_iret (pc := 18) X V hr dX0_or_18
theorem mX0_or (l : Launch) (D : va_G) (dA : Nat → ClassId) (s0 : Nat) {T : xT} {N : xT} {Z : Nat} {I : xI} {L : xL} {R : xR} {x0 : Int64} {x2 : Int32} {x3 : Int32} {ro : Int32} (hf : fX0_or x0 x2 x3 = some ro) : XMet l D dA s0 yX0_or (ws_ yX0_or cX0_or 4 ((some .int))) (2) (46) [.long x0, .int x2, .int x3] T N Z I L R (some (.int ro)) T N Z I L R 0 0 :=
  x_start (own := RX0) rfl (by decide) (Nat.le_of_ble_eq_true rfl) (lv := [(0, .long x0), (2, .int x2), (3, .int x3)]) rfl (fun p e s m below meth c ls X hr hini V hl => wX0_or_e X hr hf V hl)
set_option maxHeartbeats 400000 in
set_option maxRecDepth 100000 in
theorem wX0_turns_e {nf : Nat} {p : Program} {l : Launch} {e : Env} {s : State} {m : MethodId} {args : Array Value} {below : List Frame} {meth : Method} {c : Code} {D : va_G} {dA : Nat → ClassId} {s0 : Nat} {T : xT} {N : xT} {Z : Nat} {I : xI} {L : xL} {R : xR} {H : Heap} {locs : List Loc} {ls : Array Slot} {x0 : Nat} {x1 : Nat} {x2 : Int32} {ro : Int32} {Lo : xL} (X : Cx D dA s0 p m c cX0_turns 3 s args RX0 meth) (hr : meth.sig.returnType = (some .int)) (hf : fX0_turns nf T N I L R x0 x1 x2 = some (ro, Lo)) (V : Iv D dA s0 s T N Z I L R H locs) (hl : lv_has ls 3 [(0, .ref x0), (1, .ref x1), (2, .int x2)]) : W p l e { frames := 192, cells := 0, slots := 0, locals := 9382 } s m args below meth c H locs 0 0 (MQ below (xQ D dA s0 (some (.int ro)) T N Z I Lo R) args s 0 0 (fun q => s0 ≤ q)) (F0 m 0 ls []) := by
  have hx := X.1.1
  have hb := X.1.2.1
  unfold fX0_turns at hf
  refine lv_aload_n (pc := 0) hx hb dX0_turns_0 rfl (lv_at hl 0 rfl) ?_
  refine lv_iconst (pc := 1) (v := (ii 0)) hx hb dX0_turns_1 (by decide) ?_
  refine lv_aload_n (pc := 2) hx hb dX0_turns_2 rfl (lv_at hl 1 rfl) ?_
  refine lv_iload_n (pc := 3) hx hb dX0_turns_3 rfl (lv_at hl 2 rfl) ?_
  refine lv_iconst (pc := 4) (v := (-1 : Int32)) hx hb dX0_turns_4 (by decide) ?_
  replace hf := tg_s hf; obtain ⟨ht4, hf⟩ := hf
  replace hf := b2s hf; obtain ⟨r1, L2, hk_3, hf⟩ := hf
  refine x_callV0 (pc := 5) (As := [.int (ii 0), .ref x1, .int x2, .int (-1 : Int32)]) (rest := []) X V (mX0_told l D dA s0 hk_3) okX0 ht4 q596 q598 qs10 q119 q599 ⟨rfl, hsX0_told⟩ ⟨Nat.le_of_ble_eq_true rfl, Nat.le_of_ble_eq_true rfl⟩ rfl hl.1 rfl (Nat.le_of_ble_eq_true rfl) dX0_turns_5 ⟨Nat.zero_le _, Nat.zero_le _⟩ (fun H locs V => W.eq (g2 := F0 m 8 ls [.long r1]) rfl ?_)
  refine lv_bipush (pc := 8) (v := (ii 99)) hx hb dX0_turns_8 (by decide) ?_
  refine lv_iconst (pc := 10) (v := (ii 0)) hx hb dX0_turns_10 (by decide) ?_
  replace hf := bs hf; obtain ⟨r5, hk_6, hf⟩ := hf
  refine x_callS0 (pc := 11) (As := [.long r1, .int (ii 99), .int (ii 0)]) (rest := []) X V (mX0_or l D dA s0 hk_6) q667 q668 q119 q669 hsX0_or ⟨Nat.le_of_ble_eq_true rfl, Nat.le_of_ble_eq_true rfl⟩ rfl hl.1 rfl (Nat.le_of_ble_eq_true rfl) dX0_turns_11 ⟨Nat.zero_le _, Nat.zero_le _⟩ (fun H locs V => W.eq (g2 := F0 m 14 ls [.int r5]) rfl ?_)
  cases hf
  exact x_iret (pc := 14) X V hr dX0_turns_14
theorem mX0_turns {nf : Nat} (l : Launch) (D : va_G) (dA : Nat → ClassId) (s0 : Nat) {T : xT} {N : xT} {Z : Nat} {I : xI} {L : xL} {R : xR} {x0 : Nat} {x1 : Nat} {x2 : Int32} {ro : Int32} {Lo : xL} (hf : fX0_turns nf T N I L R x0 x1 x2 = some (ro, Lo)) : XMet l D dA s0 yX0_turns (ws_ yX0_turns cX0_turns 3 ((some .int))) (192) (9382) [.ref x0, .ref x1, .int x2] T N Z I L R (some (.int ro)) T N Z I Lo R 0 0 :=
  x_start (own := RX0) rfl (by decide) (Nat.le_of_ble_eq_true rfl) (lv := [(0, .ref x0), (1, .ref x1), (2, .int x2)]) rfl (fun p e s m below meth c ls X hr hini V hl => wX0_turns_e X hr hf V hl)
set_option maxHeartbeats 400000 in
set_option maxRecDepth 100000 in
theorem wX0_isBarred_e {nf : Nat} {p : Program} {l : Launch} {e : Env} {s : State} {m : MethodId} {args : Array Value} {below : List Frame} {meth : Method} {c : Code} {D : va_G} {dA : Nat → ClassId} {s0 : Nat} {T : xT} {N : xT} {Z : Nat} {I : xI} {L : xL} {R : xR} {H : Heap} {locs : List Loc} {ls : Array Slot} {x0 : Nat} {x1 : Nat} {x2 : Int32} {x3 : Int32} {ro : Int32} {Lo : xL} (X : Cx D dA s0 p m c cX0_isBarred 4 s args RX0 meth) (hr : meth.sig.returnType = (some .boolean)) (hf : fX0_isBarred nf T N I L R x0 x1 x2 x3 = some (ro, Lo)) (V : Iv D dA s0 s T N Z I L R H locs) (hl : lv_has ls 4 [(0, .ref x0), (1, .ref x1), (2, .int x2), (3, .int x3)]) : W p l e { frames := 192, cells := 0, slots := 0, locals := 9382 } s m args below meth c H locs 0 0 (MQ below (xQ D dA s0 (some (.int ro)) T N Z I Lo R) args s 0 0 (fun q => s0 ≤ q)) (F0 m 0 ls []) := by
  have hx := X.1.1
  have hb := X.1.2.1
  unfold fX0_isBarred at hf
  refine lv_aload_n (pc := 0) hx hb dX0_isBarred_0 rfl (lv_at hl 0 rfl) ?_
  refine lv_iconst (pc := 1) (v := (ii 2)) hx hb dX0_isBarred_1 (by decide) ?_
  refine lv_aload_n (pc := 2) hx hb dX0_isBarred_2 rfl (lv_at hl 1 rfl) ?_
  refine lv_iload_n (pc := 3) hx hb dX0_isBarred_3 rfl (lv_at hl 2 rfl) ?_
  refine lv_iload_n (pc := 4) hx hb dX0_isBarred_4 rfl (lv_at hl 3 rfl) ?_
  replace hf := tg_s hf; obtain ⟨ht4, hf⟩ := hf
  replace hf := b2s hf; obtain ⟨r1, L2, hk_3, hf⟩ := hf
  refine x_callV0 (pc := 5) (As := [.int (ii 2), .ref x1, .int x2, .int x3]) (rest := []) X V (mX0_told l D dA s0 hk_3) okX0 ht4 q596 q598 qs10 q119 q599 ⟨rfl, hsX0_told⟩ ⟨Nat.le_of_ble_eq_true rfl, Nat.le_of_ble_eq_true rfl⟩ rfl hl.1 rfl (Nat.le_of_ble_eq_true rfl) dX0_isBarred_5 ⟨Nat.zero_le _, Nat.zero_le _⟩ (fun H locs V => W.eq (g2 := F0 m 8 ls [.long r1]) rfl ?_)
  refine lv_ldc2 (pc := 8) (v := (-4000000000 : Int64)) hx hb X.1.2.2.2.1 (X.1.2.2.2.2 _ q600) dX0_isBarred_8 ?_
  refine lc_eq (pc := 11) (tgt := 19) hx hb dX0_isBarred_11 dX0_isBarred_12 (by decide) (fun c5 => ?_) (fun c5 => ?_)
  · replace hf := if_t hf c5
    refine lv_iconst (pc := 19) (v := (ii 0)) hx hb dX0_isBarred_19 (by decide) ?_
    cases hf
    exact x_zret (pc := 20) X V hr (by decide) dX0_isBarred_20
  · replace hf := if_f hf c5
    refine lv_iconst (pc := 15) (v := (ii 1)) hx hb dX0_isBarred_15 (by decide) ?_
    refine lv_goto (pc := 16) (tgt := 20) hx hb dX0_isBarred_16 (by decide) ?_
    cases hf
    exact x_zret (pc := 20) X V hr (by decide) dX0_isBarred_20
theorem mX0_isBarred {nf : Nat} (l : Launch) (D : va_G) (dA : Nat → ClassId) (s0 : Nat) {T : xT} {N : xT} {Z : Nat} {I : xI} {L : xL} {R : xR} {x0 : Nat} {x1 : Nat} {x2 : Int32} {x3 : Int32} {ro : Int32} {Lo : xL} (hf : fX0_isBarred nf T N I L R x0 x1 x2 x3 = some (ro, Lo)) : XMet l D dA s0 yX0_isBarred (ws_ yX0_isBarred cX0_isBarred 4 ((some .boolean))) (192) (9382) [.ref x0, .ref x1, .int x2, .int x3] T N Z I L R (some (.int ro)) T N Z I Lo R 0 0 :=
  x_start (own := RX0) rfl (by decide) (Nat.le_of_ble_eq_true rfl) (lv := [(0, .ref x0), (1, .ref x1), (2, .int x2), (3, .int x3)]) rfl (fun p e s m below meth c ls X hr hini V hl => wX0_isBarred_e X hr hf V hl)
set_option maxHeartbeats 400000 in
set_option maxRecDepth 100000 in
theorem wX0_laneNext_b5 {nf : Nat} {p : Program} {l : Launch} {e : Env} {s : State} {m : MethodId} {args : Array Value} {below : List Frame} {meth : Method} {c : Code} {D : va_G} {dA : Nat → ClassId} {s0 : Nat} {T : xT} {N : xT} {Z : Nat} {R : xR}  {ro : Int32} {Io : xI} {Lo : xL} (X : Cx D dA s0 p m c cX0_laneNext 5 s args RX0 meth) (hr : meth.sig.returnType = (some .int))   (k : Nat) : ∀ {I : xI} {L : xL} {x0 : Nat} {x1 : Nat} {x2 : Int32} {x3 : Int32} {x4 : Int32} {H : Heap} {locs : List Loc} {ls : Array Slot} , fX0_laneNext_b5 nf T N R k I L x0 x1 x2 x3 x4 = some (ro, Io, Lo) → Iv D dA s0 s T N Z I L R H locs → lv_has ls 5 [(0, .ref x0), (1, .ref x1), (2, .int x2), (3, .int x3), (4, .int x4)] → W p l e { frames := 193, cells := 0, slots := 0, locals := 9405 } s m args below meth c H locs 0 0 (MQ below (xQ D dA s0 (some (.int ro)) T N Z Io Lo R) args s 0 0 (fun q => s0 ≤ q)) (F0 m 5 ls []) := by
  have hx := X.1.1
  have hb := X.1.2.1
  induction k with
  | zero =>
    intro I L x0 x1 x2 x3 x4 H locs ls hf V hl
    exact absurd (show none = some _ from hf) (fun q => nomatch q)
  | succ k ih =>
    intro I L x0 x1 x2 x3 x4 H locs ls hf V hl
    rw [fX0_laneNext_b5] at hf
    refine lv_iload (pc := 5) hx hb dX0_laneNext_5 (lv_at hl 4 rfl) ?_
    refine lv_aload_n (pc := 7) hx hb dX0_laneNext_7 rfl (lv_at hl 0 rfl) ?_
    replace hf := tg_s hf; obtain ⟨ht1, hf⟩ := hf
    replace hf := bs hf; obtain ⟨a2, ha2, hf⟩ := hf
    refine x_get (pc := 8) X V okX0 ht1 2 (by decide) q362 (v := va_rf (R x0 2)) rfl dX0_laneNext_8 ?_
    refine x_topr ha2 ?_
    replace hf := tg_s hf; obtain ⟨ht3, hf⟩ := hf
    refine x_getN (pc := 11) X V okX1 ht3 8 (by decide) q238 (v := .int (I a2 8)) rfl dX0_laneNext_11 ?_
    refine lv_icmp_ge (pc := 14) (tgt := 66) hx hb dX0_laneNext_14 (by decide) (fun c4 => ?_) (fun c4 => ?_)
    · replace hf := if_t hf c4
      refine lv_iload_n (pc := 66) hx hb dX0_laneNext_66 rfl (lv_at hl 3 rfl) ?_
      refine lv_if_ne (pc := 67) (tgt := 74) hx hb dX0_laneNext_67 (by decide) (fun c5 => ?_) (fun c5 => ?_)
      · replace hf := if_f hf c5
        refine lv_aload_n (pc := 74) hx hb dX0_laneNext_74 rfl (lv_at hl 0 rfl) ?_
        replace hf := bs hf; obtain ⟨a6, ha6, hf⟩ := hf
        refine x_get (pc := 75) X V okX0 ht1 17 (by decide) q377 (v := va_rf (R x0 17)) rfl dX0_laneNext_75 ?_
        refine x_topr ha6 ?_
        refine lv_aload_n (pc := 78) hx hb dX0_laneNext_78 rfl (lv_at hl 0 rfl) ?_
        refine lv_aload_n (pc := 79) hx hb dX0_laneNext_79 rfl (lv_at hl 1 rfl) ?_
        refine lv_iload_n (pc := 80) hx hb dX0_laneNext_80 rfl (lv_at hl 2 rfl) ?_
        replace hf := b2s hf; obtain ⟨r7, L8, hk_9, hf⟩ := hf
        refine x_callV0 (pc := 81) (As := [.ref x1, .int x2]) (rest := [.ref a6]) X V (mX0_turns l D dA s0 hk_9) okX0 ht1 q592 q594 qs9 q119 q595 ⟨rfl, hsX0_turns⟩ ⟨Nat.le_of_ble_eq_true rfl, Nat.le_of_ble_eq_true rfl⟩ rfl hl.1 rfl (Nat.le_of_ble_eq_true rfl) dX0_laneNext_81 ⟨Nat.zero_le _, Nat.zero_le _⟩ (fun H locs V => W.eq (g2 := F0 m 84 ls [.int r7, .ref a6]) rfl ?_)
        refine lv_iload_n (pc := 84) hx hb dX0_laneNext_84 rfl (lv_at hl 3 rfl) ?_
        replace hf := chk_s hf; obtain ⟨hc10, hf⟩ := hf
        refine lv_irem (pc := 85) hx hb dX0_laneNext_85 (of_decide_eq_true hc10) ?_
        replace hf := rA_s hf; obtain ⟨j11, hjj11, htj11, hij11, hf⟩ := hf
        refine x_iald (pc := 86) X V htj11 hij11 hjj11 dX0_laneNext_86 ?_
        cases hf
        exact x_iret (pc := 87) X V hr dX0_laneNext_87
      · replace hf := if_t hf c5
        refine lv_iconst (pc := 70) (v := (-1 : Int32)) hx hb dX0_laneNext_70 (by decide) ?_
        refine lv_goto (pc := 71) (tgt := 87) hx hb dX0_laneNext_71 (by decide) ?_
        cases hf
        exact x_iret (pc := 87) X V hr dX0_laneNext_87
    · replace hf := if_f hf c4
      refine lv_aload_n (pc := 17) hx hb dX0_laneNext_17 rfl (lv_at hl 0 rfl) ?_
      refine x_get (pc := 18) X V okX0 ht1 2 (by decide) q362 (v := va_rf (R x0 2)) rfl dX0_laneNext_18 ?_
      refine x_topr ha2 ?_
      refine lv_iload (pc := 21) hx hb dX0_laneNext_21 (lv_at hl 4 rfl) ?_
      refine lv_aload_n (pc := 23) hx hb dX0_laneNext_23 rfl (lv_at hl 1 rfl) ?_
      replace hf := tg_s hf; obtain ⟨ht12, hf⟩ := hf
      replace hf := bs hf; obtain ⟨a13, ha13, hf⟩ := hf
      refine x_getN (pc := 24) X V okX2 ht12 0 (by decide) q176 (v := va_rf (R x1 0)) rfl dX0_laneNext_24 ?_
      refine x_topr ha13 ?_
      refine lv_iload_n (pc := 27) hx hb dX0_laneNext_27 rfl (lv_at hl 2 rfl) ?_
      replace hf := rA_s hf; obtain ⟨j14, hjj14, htj14, hij14, hf⟩ := hf
      refine x_iald (pc := 28) X V htj14 hij14 hjj14 dX0_laneNext_28 ?_
      replace hf := bs hf; obtain ⟨r15, hk_16, hf⟩ := hf
      refine x_callV0 (pc := 29) (As := [.int x4, .int (I a13 j14)]) (rest := []) X V (mX1_isAt l D dA s0 hk_16) okX1 ht3 q683 q684 q685 q120 q686 ⟨rfl, hsX1_isAt⟩ ⟨Nat.le_of_ble_eq_true rfl, Nat.le_of_ble_eq_true rfl⟩ rfl hl.1 rfl (Nat.le_of_ble_eq_true rfl) dX0_laneNext_29 ⟨Nat.zero_le _, Nat.zero_le _⟩ (fun H locs V => W.eq (g2 := F0 m 32 ls [.int r15]) rfl ?_)
      refine lv_if_eq (pc := 32) (tgt := 60) hx hb dX0_laneNext_32 (by decide) (fun c17 => ?_) (fun c17 => ?_)
      · replace hf := if_t hf c17
        replace hf := nm_s hf; obtain ⟨u18, hu18, hf⟩ := hf
        refine lv_iinc (pc := 60) (v := u18) (lv' := [(4, .int u18), (0, .ref x0), (1, .ref x1), (2, .int x2), (3, .int x3)]) hx hb dX0_laneNext_60 hl (k := 4) rfl (by rw [hu18]; rfl) (by decide) rfl (fun ls hl => ?_)
        refine lv_goto (pc := 63) (tgt := 5) hx hb dX0_laneNext_63 (by decide) ?_
        exact ih hf V (lv_sub hl [1, 2, 3, 4, 0] rfl)
      · replace hf := if_f hf c17
        refine lv_aload_n (pc := 35) hx hb dX0_laneNext_35 rfl (lv_at hl 0 rfl) ?_
        refine lv_aload_n (pc := 36) hx hb dX0_laneNext_36 rfl (lv_at hl 1 rfl) ?_
        refine lv_iload_n (pc := 37) hx hb dX0_laneNext_37 rfl (lv_at hl 2 rfl) ?_
        refine lv_iload (pc := 38) hx hb dX0_laneNext_38 (lv_at hl 4 rfl) ?_
        replace hf := b2s hf; obtain ⟨r19, L20, hk_21, hf⟩ := hf
        refine x_callV0 (pc := 40) (As := [.ref x1, .int x2, .int x4]) (rest := []) X V (mX0_isBarred l D dA s0 hk_21) okX0 ht1 q687 q689 qs12 q119 q690 ⟨rfl, hsX0_isBarred⟩ ⟨Nat.le_of_ble_eq_true rfl, Nat.le_of_ble_eq_true rfl⟩ rfl hl.1 rfl (Nat.le_of_ble_eq_true rfl) dX0_laneNext_40 ⟨Nat.zero_le _, Nat.zero_le _⟩ (fun H locs V => W.eq (g2 := F0 m 43 ls [.int r19]) rfl ?_)
        refine lv_if_eq (pc := 43) (tgt := 49) hx hb dX0_laneNext_43 (by decide) (fun c22 => ?_) (fun c22 => ?_)
        · replace hf := if_t hf c22
          refine lv_aload_n (pc := 49) hx hb dX0_laneNext_49 rfl (lv_at hl 0 rfl) ?_
          replace hf := bs hf; obtain ⟨a23, ha23, hf⟩ := hf
          refine x_get (pc := 50) X V okX0 ht1 17 (by decide) q377 (v := va_rf (R x0 17)) rfl dX0_laneNext_50 ?_
          refine x_topr ha23 ?_
          refine lv_iload_n (pc := 53) hx hb dX0_laneNext_53 rfl (lv_at hl 3 rfl) ?_
          refine lv_iload (pc := 54) hx hb dX0_laneNext_54 (lv_at hl 4 rfl) ?_
          replace hf := rA_s hf; obtain ⟨j24, hjj24, htj24, hij24, hf⟩ := hf
          replace hf := nm_s hf; obtain ⟨I25, hI25, hf⟩ := hf
          refine x_iast (pc := 56) X V htj24 hij24 hjj24 hI25 dX0_laneNext_56 (fun H locs V => ?_)
          replace hf := nm_s hf; obtain ⟨u26, hu26, hf⟩ := hf
          refine lv_iinc (pc := 57) (v := u26) (lv' := [(3, .int u26), (0, .ref x0), (1, .ref x1), (2, .int x2), (4, .int x4)]) hx hb dX0_laneNext_57 hl (k := 3) rfl (by rw [hu26]; rfl) (by decide) rfl (fun ls hl => ?_)
          replace hf := nm_s hf; obtain ⟨u27, hu27, hf⟩ := hf
          refine lv_iinc (pc := 60) (v := u27) (lv' := [(4, .int u27), (3, .int u26), (0, .ref x0), (1, .ref x1), (2, .int x2)]) hx hb dX0_laneNext_60 hl (k := 4) rfl (by rw [hu27]; rfl) (by decide) rfl (fun ls hl => ?_)
          refine lv_goto (pc := 63) (tgt := 5) hx hb dX0_laneNext_63 (by decide) ?_
          exact ih hf V (lv_sub hl [2, 3, 4, 1, 0] rfl)
        · replace hf := if_f hf c22
          refine lv_goto (pc := 46) (tgt := 60) hx hb dX0_laneNext_46 (by decide) ?_
          replace hf := nm_s hf; obtain ⟨u28, hu28, hf⟩ := hf
          refine lv_iinc (pc := 60) (v := u28) (lv' := [(4, .int u28), (0, .ref x0), (1, .ref x1), (2, .int x2), (3, .int x3)]) hx hb dX0_laneNext_60 hl (k := 4) rfl (by rw [hu28]; rfl) (by decide) rfl (fun ls hl => ?_)
          refine lv_goto (pc := 63) (tgt := 5) hx hb dX0_laneNext_63 (by decide) ?_
          exact ih hf V (lv_sub hl [1, 2, 3, 4, 0] rfl)
set_option maxHeartbeats 400000 in
set_option maxRecDepth 100000 in
theorem wX0_laneNext_e {nf : Nat} {p : Program} {l : Launch} {e : Env} {s : State} {m : MethodId} {args : Array Value} {below : List Frame} {meth : Method} {c : Code} {D : va_G} {dA : Nat → ClassId} {s0 : Nat} {T : xT} {N : xT} {Z : Nat} {I : xI} {L : xL} {R : xR} {H : Heap} {locs : List Loc} {ls : Array Slot} {x0 : Nat} {x1 : Nat} {x2 : Int32} {ro : Int32} {Io : xI} {Lo : xL} (X : Cx D dA s0 p m c cX0_laneNext 5 s args RX0 meth) (hr : meth.sig.returnType = (some .int)) (hf : fX0_laneNext nf T N I L R x0 x1 x2 = some (ro, Io, Lo)) (V : Iv D dA s0 s T N Z I L R H locs) (hl : lv_has ls 5 [(0, .ref x0), (1, .ref x1), (2, .int x2)]) : W p l e { frames := 193, cells := 0, slots := 0, locals := 9405 } s m args below meth c H locs 0 0 (MQ below (xQ D dA s0 (some (.int ro)) T N Z Io Lo R) args s 0 0 (fun q => s0 ≤ q)) (F0 m 0 ls []) := by
  have hx := X.1.1
  have hb := X.1.2.1
  unfold fX0_laneNext at hf
  refine lv_iconst (pc := 0) (v := (ii 0)) hx hb dX0_laneNext_0 (by decide) ?_
  refine lv_istore_n (pc := 1) (lv' := [(3, .int (ii 0)), (0, .ref x0), (1, .ref x1), (2, .int x2)]) hx hb dX0_laneNext_1 rfl hl (by decide) rfl (fun ls hl => ?_)
  refine lv_iconst (pc := 2) (v := (ii 0)) hx hb dX0_laneNext_2 (by decide) ?_
  refine lv_istore (pc := 3) (lv' := [(4, .int (ii 0)), (3, .int (ii 0)), (0, .ref x0), (1, .ref x1), (2, .int x2)]) hx hb dX0_laneNext_3 hl (by decide) rfl (fun ls hl => ?_)
  exact wX0_laneNext_b5 X hr nf hf V (lv_sub hl [2, 3, 4, 1, 0] rfl)
theorem mX0_laneNext {nf : Nat} (l : Launch) (D : va_G) (dA : Nat → ClassId) (s0 : Nat) {T : xT} {N : xT} {Z : Nat} {I : xI} {L : xL} {R : xR} {x0 : Nat} {x1 : Nat} {x2 : Int32} {ro : Int32} {Io : xI} {Lo : xL} (hf : fX0_laneNext nf T N I L R x0 x1 x2 = some (ro, Io, Lo)) : XMet l D dA s0 yX0_laneNext (ws_ yX0_laneNext cX0_laneNext 5 ((some .int))) (193) (9405) [.ref x0, .ref x1, .int x2] T N Z I L R (some (.int ro)) T N Z Io Lo R 0 0 :=
  x_start (own := RX0) rfl (by decide) (Nat.le_of_ble_eq_true rfl) (lv := [(0, .ref x0), (1, .ref x1), (2, .int x2)]) rfl (fun p e s m below meth c ls X hr hini V hl => wX0_laneNext_e X hr hf V hl)
set_option maxHeartbeats 400000 in
set_option maxRecDepth 100000 in
theorem wX0_of_e {nf : Nat} {p : Program} {l : Launch} {e : Env} {s : State} {m : MethodId} {args : Array Value} {below : List Frame} {meth : Method} {c : Code} {D : va_G} {dA : Nat → ClassId} {s0 : Nat} {T : xT} {N : xT} {Z : Nat} {I : xI} {L : xL} {R : xR} {H : Heap} {locs : List Loc} {ls : Array Slot} {x0 : Nat} {x1 : Int32} {x2 : Int32} {ro : Int32} {Io : xI} {Lo : xL} (X : Cx D dA s0 p m c cX0_of 4 s args RX0 meth) (hr : meth.sig.returnType = (some .int)) (hf : fX0_of nf T N I L R x0 x1 x2 = some (ro, Io, Lo)) (V : Iv D dA s0 s T N Z I L R H locs) (hl : lv_has ls 4 [(0, .ref x0), (1, .int x1), (2, .int x2)]) : W p l e { frames := 194, cells := 0, slots := 0, locals := 9429 } s m args below meth c H locs 0 0 (MQ below (xQ D dA s0 (some (.int ro)) T N Z Io Lo R) args s 0 0 (fun q => s0 ≤ q)) (F0 m 0 ls []) := by
  have hx := X.1.1
  have hb := X.1.2.1
  unfold fX0_of at hf
  refine lv_aload_n (pc := 0) hx hb dX0_of_0 rfl (lv_at hl 0 rfl) ?_
  refine lv_iload_n (pc := 1) hx hb dX0_of_1 rfl (lv_at hl 1 rfl) ?_
  replace hf := tg_s hf; obtain ⟨ht3, hf⟩ := hf
  replace hf := bs hf; obtain ⟨r1, hk_2, hf⟩ := hf
  refine x_callV0 (pc := 2) (As := [.int x1]) (rest := []) X V (mX0_isChild l D dA s0 hk_2) okX0 ht3 q588 q590 qs8 q119 q591 ⟨rfl, hsX0_isChild⟩ ⟨Nat.le_of_ble_eq_true rfl, Nat.le_of_ble_eq_true rfl⟩ rfl hl.1 rfl (Nat.le_of_ble_eq_true rfl) dX0_of_2 ⟨Nat.zero_le _, Nat.zero_le _⟩ (fun H locs V => W.eq (g2 := F0 m 5 ls [.int r1]) rfl ?_)
  refine lv_if_ne (pc := 5) (tgt := 10) hx hb dX0_of_5 (by decide) (fun c4 => ?_) (fun c4 => ?_)
  · replace hf := if_f hf c4
    refine lv_aload_n (pc := 10) hx hb dX0_of_10 rfl (lv_at hl 0 rfl) ?_
    replace hf := bs hf; obtain ⟨r5, hk_6, hf⟩ := hf
    refine x_callV0 (pc := 11) (As := []) (rest := []) X V (mX0_table l D dA s0 hk_6) okX0 ht3 q568 q570 qs6 q119 q571 ⟨rfl, hsX0_table⟩ ⟨Nat.le_of_ble_eq_true rfl, Nat.le_of_ble_eq_true rfl⟩ rfl hl.1 rfl (Nat.le_of_ble_eq_true rfl) dX0_of_11 ⟨Nat.zero_le _, Nat.zero_le _⟩ (fun H locs V => W.eq (g2 := F0 m 14 ls [.ref r5]) rfl ?_)
    refine lv_astore_n (pc := 14) (lv' := [(3, .ref r5), (0, .ref x0), (1, .int x1), (2, .int x2)]) hx hb dX0_of_14 rfl hl (by decide) rfl (fun ls hl => ?_)
    refine lv_iload_n (pc := 15) hx hb dX0_of_15 rfl (lv_at hl 3 rfl) ?_
    by_cases c7 : x2 = (ii 0)
    · replace hf := if_t hf c7
      refine x_tswIn (pc := 16) (tgt := 52) (off := 36) hx hb c7 dX0_of_16 (by decide) (by decide) (by decide) (by decide) ?_
      refine lv_aload_n (pc := 52) hx hb dX0_of_52 rfl (lv_at hl 1 rfl) ?_
      replace hf := bs hf; obtain ⟨a8, ha8, hf⟩ := hf
      refine x_get (pc := 53) X V okX0 ht3 2 (by decide) q362 (v := va_rf (R x0 2)) rfl dX0_of_53 ?_
      refine x_topr ha8 ?_
      replace hf := tg_s hf; obtain ⟨ht9, hf⟩ := hf
      replace hf := bs hf; obtain ⟨a10, ha10, hf⟩ := hf
      refine x_getN (pc := 56) X V okX1 ht9 5 (by decide) q232 (v := va_rf (R a8 5)) rfl dX0_of_56 ?_
      refine x_topr ha10 ?_
      refine lv_iload_n (pc := 59) hx hb dX0_of_59 rfl (lv_at hl 2 rfl) ?_
      replace hf := rA_s hf; obtain ⟨j11, hjj11, htj11, hij11, hf⟩ := hf
      refine x_iald (pc := 60) X V htj11 hij11 hjj11 dX0_of_60 ?_
      cases hf
      exact x_iret (pc := 61) X V hr dX0_of_61
    replace hf := if_f hf c7
    by_cases c12 : x2 = (ii 1)
    · replace hf := if_t hf c12
      refine x_tswIn (pc := 16) (tgt := 62) (off := 46) hx hb c12 dX0_of_16 (by decide) (by decide) (by decide) (by decide) ?_
      refine lv_aload_n (pc := 62) hx hb dX0_of_62 rfl (lv_at hl 0 rfl) ?_
      replace hf := tg_s hf; obtain ⟨ht13, hf⟩ := hf
      replace hf := bs hf; obtain ⟨a14, ha14, hf⟩ := hf
      refine x_getN (pc := 63) X V okX2 ht13 0 (by decide) q176 (v := va_rf (R r5 0)) rfl dX0_of_63 ?_
      refine x_topr ha14 ?_
      refine lv_iload_n (pc := 66) hx hb dX0_of_66 rfl (lv_at hl 2 rfl) ?_
      replace hf := rA_s hf; obtain ⟨j15, hjj15, htj15, hij15, hf⟩ := hf
      refine x_iald (pc := 67) X V htj15 hij15 hjj15 dX0_of_67 ?_
      cases hf
      exact x_iret (pc := 68) X V hr dX0_of_68
    replace hf := if_f hf c12
    by_cases c16 : x2 = (ii 2)
    · replace hf := if_t hf c16
      refine x_tswIn (pc := 16) (tgt := 69) (off := 53) hx hb c16 dX0_of_16 (by decide) (by decide) (by decide) (by decide) ?_
      refine lv_aload_n (pc := 69) hx hb dX0_of_69 rfl (lv_at hl 0 rfl) ?_
      replace hf := tg_s hf; obtain ⟨ht17, hf⟩ := hf
      replace hf := bs hf; obtain ⟨a18, ha18, hf⟩ := hf
      refine x_getN (pc := 70) X V okX2 ht17 1 (by decide) q178 (v := va_rf (R r5 1)) rfl dX0_of_70 ?_
      refine x_topr ha18 ?_
      refine lv_iload_n (pc := 73) hx hb dX0_of_73 rfl (lv_at hl 2 rfl) ?_
      replace hf := rA_s hf; obtain ⟨j19, hjj19, htj19, hij19, hf⟩ := hf
      refine x_iald (pc := 74) X V htj19 hij19 hjj19 dX0_of_74 ?_
      cases hf
      exact x_iret (pc := 75) X V hr dX0_of_75
    replace hf := if_f hf c16
    by_cases c20 : x2 = (ii 3)
    · replace hf := if_t hf c20
      refine x_tswIn (pc := 16) (tgt := 76) (off := 60) hx hb c20 dX0_of_16 (by decide) (by decide) (by decide) (by decide) ?_
      refine lv_aload_n (pc := 76) hx hb dX0_of_76 rfl (lv_at hl 1 rfl) ?_
      refine lv_aload_n (pc := 77) hx hb dX0_of_77 rfl (lv_at hl 0 rfl) ?_
      refine lv_iload_n (pc := 78) hx hb dX0_of_78 rfl (lv_at hl 2 rfl) ?_
      replace hf := b2s hf; obtain ⟨r21, L22, hk_23, hf⟩ := hf
      refine x_callV0 (pc := 79) (As := [.ref r5, .int x1]) (rest := []) X V (mX0_turns l D dA s0 hk_23) okX0 ht3 q592 q594 qs9 q119 q595 ⟨rfl, hsX0_turns⟩ ⟨Nat.le_of_ble_eq_true rfl, Nat.le_of_ble_eq_true rfl⟩ rfl hl.1 rfl (Nat.le_of_ble_eq_true rfl) dX0_of_79 ⟨Nat.zero_le _, Nat.zero_le _⟩ (fun H locs V => W.eq (g2 := F0 m 82 ls [.int r21]) rfl ?_)
      cases hf
      exact x_iret (pc := 82) X V hr dX0_of_82
    replace hf := if_f hf c20
    by_cases c24 : x2 = (ii 4)
    · replace hf := if_t hf c24
      refine x_tswIn (pc := 16) (tgt := 83) (off := 67) hx hb c24 dX0_of_16 (by decide) (by decide) (by decide) (by decide) ?_
      refine lv_aload_n (pc := 83) hx hb dX0_of_83 rfl (lv_at hl 1 rfl) ?_
      refine lv_aload_n (pc := 84) hx hb dX0_of_84 rfl (lv_at hl 0 rfl) ?_
      refine lv_iload_n (pc := 85) hx hb dX0_of_85 rfl (lv_at hl 2 rfl) ?_
      replace hf := b3s hf; obtain ⟨r25, I26, L27, hk_28, hf⟩ := hf
      refine x_callV0 (pc := 86) (As := [.ref r5, .int x1]) (rest := []) X V (mX0_laneNext l D dA s0 hk_28) okX0 ht3 q679 q681 qs11 q119 q682 ⟨rfl, hsX0_laneNext⟩ ⟨Nat.le_of_ble_eq_true rfl, Nat.le_of_ble_eq_true rfl⟩ rfl hl.1 rfl (Nat.le_of_ble_eq_true rfl) dX0_of_86 ⟨Nat.zero_le _, Nat.zero_le _⟩ (fun H locs V => W.eq (g2 := F0 m 89 ls [.int r25]) rfl ?_)
      cases hf
      exact x_iret (pc := 89) X V hr dX0_of_89
    replace hf := if_f hf c24
    refine lv_tableOut (pc := 16) (tgt := 90) hx hb dX0_of_16 (by have qc7 := lv_neT c7 (a := 0) (by decide); have qc12 := lv_neT c12 (a := 1) (by decide); have qc16 := lv_neT c16 (a := 2) (by decide); have qc20 := lv_neT c20 (a := 3) (by decide); have qc24 := lv_neT c24 (a := 4) (by decide); omega) (by decide) ?_
    refine lv_iconst (pc := 90) (v := (-1 : Int32)) hx hb dX0_of_90 (by decide) ?_
    cases hf
    exact x_iret (pc := 91) X V hr dX0_of_91
  · replace hf := if_t hf c4
    refine lv_iconst (pc := 8) (v := (-1 : Int32)) hx hb dX0_of_8 (by decide) ?_
    cases hf
    exact x_iret (pc := 9) X V hr dX0_of_9
theorem mX0_of {nf : Nat} (l : Launch) (D : va_G) (dA : Nat → ClassId) (s0 : Nat) {T : xT} {N : xT} {Z : Nat} {I : xI} {L : xL} {R : xR} {x0 : Nat} {x1 : Int32} {x2 : Int32} {ro : Int32} {Io : xI} {Lo : xL} (hf : fX0_of nf T N I L R x0 x1 x2 = some (ro, Io, Lo)) : XMet l D dA s0 yX0_of (ws_ yX0_of cX0_of 4 ((some .int))) (194) (9429) [.ref x0, .int x1, .int x2] T N Z I L R (some (.int ro)) T N Z Io Lo R 0 0 :=
  x_start (own := RX0) rfl (by decide) (Nat.le_of_ble_eq_true rfl) (lv := [(0, .ref x0), (1, .int x1), (2, .int x2)]) rfl (fun p e s m below meth c ls X hr hini V hl => wX0_of_e X hr hf V hl)
set_option maxHeartbeats 400000 in
set_option maxRecDepth 100000 in
theorem wX0_says_e {nf : Nat} {p : Program} {l : Launch} {e : Env} {s : State} {m : MethodId} {args : Array Value} {below : List Frame} {meth : Method} {c : Code} {D : va_G} {dA : Nat → ClassId} {s0 : Nat} {T : xT} {N : xT} {Z : Nat} {I : xI} {L : xL} {R : xR} {H : Heap} {locs : List Loc} {ls : Array Slot} {x0 : Nat} {x1 : Nat} {x2 : Int32} {x3 : Int32} {ro : Int32} {Lo : xL} (X : Cx D dA s0 p m c cX0_says 4 s args RX0 meth) (hr : meth.sig.returnType = (some .int)) (hf : fX0_says nf T N I L R x0 x1 x2 x3 = some (ro, Lo)) (V : Iv D dA s0 s T N Z I L R H locs) (hl : lv_has ls 4 [(0, .ref x0), (1, .ref x1), (2, .int x2), (3, .int x3)]) : W p l e { frames := 192, cells := 0, slots := 0, locals := 9382 } s m args below meth c H locs 0 0 (MQ below (xQ D dA s0 (some (.int ro)) T N Z I Lo R) args s 0 0 (fun q => s0 ≤ q)) (F0 m 0 ls []) := by
  have hx := X.1.1
  have hb := X.1.2.1
  unfold fX0_says at hf
  refine lv_aload_n (pc := 0) hx hb dX0_says_0 rfl (lv_at hl 0 rfl) ?_
  refine lv_iconst (pc := 1) (v := (ii 1)) hx hb dX0_says_1 (by decide) ?_
  refine lv_aload_n (pc := 2) hx hb dX0_says_2 rfl (lv_at hl 1 rfl) ?_
  refine lv_iload_n (pc := 3) hx hb dX0_says_3 rfl (lv_at hl 2 rfl) ?_
  refine lv_iload_n (pc := 4) hx hb dX0_says_4 rfl (lv_at hl 3 rfl) ?_
  replace hf := tg_s hf; obtain ⟨ht4, hf⟩ := hf
  replace hf := b2s hf; obtain ⟨r1, L2, hk_3, hf⟩ := hf
  refine x_callV0 (pc := 5) (As := [.int (ii 1), .ref x1, .int x2, .int x3]) (rest := []) X V (mX0_told l D dA s0 hk_3) okX0 ht4 q596 q598 qs10 q119 q599 ⟨rfl, hsX0_told⟩ ⟨Nat.le_of_ble_eq_true rfl, Nat.le_of_ble_eq_true rfl⟩ rfl hl.1 rfl (Nat.le_of_ble_eq_true rfl) dX0_says_5 ⟨Nat.zero_le _, Nat.zero_le _⟩ (fun H locs V => W.eq (g2 := F0 m 8 ls [.long r1]) rfl ?_)
  refine lv_bipush (pc := 8) (v := (ii 19)) hx hb dX0_says_8 (by decide) ?_
  refine lv_aload_n (pc := 10) hx hb dX0_says_10 rfl (lv_at hl 0 rfl) ?_
  replace hf := bs hf; obtain ⟨a5, ha5, hf⟩ := hf
  refine x_get (pc := 11) X V okX0 ht4 2 (by decide) q362 (v := va_rf (R x0 2)) rfl dX0_says_11 ?_
  refine x_topr ha5 ?_
  replace hf := tg_s hf; obtain ⟨ht6, hf⟩ := hf
  replace hf := bs hf; obtain ⟨a7, ha7, hf⟩ := hf
  refine x_getN (pc := 14) X V okX1 ht6 4 (by decide) q230 (v := va_rf (R a5 4)) rfl dX0_says_14 ?_
  refine x_topr ha7 ?_
  refine lv_iload_n (pc := 17) hx hb dX0_says_17 rfl (lv_at hl 3 rfl) ?_
  replace hf := rA_s hf; obtain ⟨j8, hjj8, htj8, hij8, hf⟩ := hf
  refine x_iald (pc := 18) X V htj8 hij8 hjj8 dX0_says_18 ?_
  replace hf := bs hf; obtain ⟨r9, hk_10, hf⟩ := hf
  refine x_callS0 (pc := 19) (As := [.long r1, .int (ii 19), .int (I a7 j8)]) (rest := []) X V (mX0_or l D dA s0 hk_10) q667 q668 q119 q669 hsX0_or ⟨Nat.le_of_ble_eq_true rfl, Nat.le_of_ble_eq_true rfl⟩ rfl hl.1 rfl (Nat.le_of_ble_eq_true rfl) dX0_says_19 ⟨Nat.zero_le _, Nat.zero_le _⟩ (fun H locs V => W.eq (g2 := F0 m 22 ls [.int r9]) rfl ?_)
  cases hf
  exact x_iret (pc := 22) X V hr dX0_says_22
theorem mX0_says {nf : Nat} (l : Launch) (D : va_G) (dA : Nat → ClassId) (s0 : Nat) {T : xT} {N : xT} {Z : Nat} {I : xI} {L : xL} {R : xR} {x0 : Nat} {x1 : Nat} {x2 : Int32} {x3 : Int32} {ro : Int32} {Lo : xL} (hf : fX0_says nf T N I L R x0 x1 x2 x3 = some (ro, Lo)) : XMet l D dA s0 yX0_says (ws_ yX0_says cX0_says 4 ((some .int))) (192) (9382) [.ref x0, .ref x1, .int x2, .int x3] T N Z I L R (some (.int ro)) T N Z I Lo R 0 0 :=
  x_start (own := RX0) rfl (by decide) (Nat.le_of_ble_eq_true rfl) (lv := [(0, .ref x0), (1, .ref x1), (2, .int x2), (3, .int x3)]) rfl (fun p e s m below meth c ls X hr hini V hl => wX0_says_e X hr hf V hl)
set_option maxHeartbeats 400000 in
set_option maxRecDepth 100000 in
theorem wX0_asks_e {nf : Nat} {p : Program} {l : Launch} {e : Env} {s : State} {m : MethodId} {args : Array Value} {below : List Frame} {meth : Method} {c : Code} {D : va_G} {dA : Nat → ClassId} {s0 : Nat} {T : xT} {N : xT} {Z : Nat} {I : xI} {L : xL} {R : xR} {H : Heap} {locs : List Loc} {ls : Array Slot} {x0 : Nat} {x1 : Int32} {x2 : Int32} {x3 : Int32} {ro : Int32} {Lo : xL} (X : Cx D dA s0 p m c cX0_asks 4 s args RX0 meth) (hr : meth.sig.returnType = (some .int)) (hf : fX0_asks nf T N I L R x0 x1 x2 x3 = some (ro, Lo)) (V : Iv D dA s0 s T N Z I L R H locs) (hl : lv_has ls 4 [(0, .ref x0), (1, .int x1), (2, .int x2), (3, .int x3)]) : W p l e { frames := 193, cells := 0, slots := 0, locals := 9405 } s m args below meth c H locs 0 0 (MQ below (xQ D dA s0 (some (.int ro)) T N Z I Lo R) args s 0 0 (fun q => s0 ≤ q)) (F0 m 0 ls []) := by
  have hx := X.1.1
  have hb := X.1.2.1
  unfold fX0_asks at hf
  refine lv_aload_n (pc := 0) hx hb dX0_asks_0 rfl (lv_at hl 0 rfl) ?_
  refine lv_iload_n (pc := 1) hx hb dX0_asks_1 rfl (lv_at hl 1 rfl) ?_
  replace hf := tg_s hf; obtain ⟨ht3, hf⟩ := hf
  replace hf := bs hf; obtain ⟨r1, hk_2, hf⟩ := hf
  refine x_callV0 (pc := 2) (As := [.int x1]) (rest := []) X V (mX0_isChild l D dA s0 hk_2) okX0 ht3 q588 q590 qs8 q119 q591 ⟨rfl, hsX0_isChild⟩ ⟨Nat.le_of_ble_eq_true rfl, Nat.le_of_ble_eq_true rfl⟩ rfl hl.1 rfl (Nat.le_of_ble_eq_true rfl) dX0_asks_2 ⟨Nat.zero_le _, Nat.zero_le _⟩ (fun H locs V => W.eq (g2 := F0 m 5 ls [.int r1]) rfl ?_)
  refine lv_if_eq (pc := 5) (tgt := 25) hx hb dX0_asks_5 (by decide) (fun c4 => ?_) (fun c4 => ?_)
  · replace hf := if_t hf c4
    refine lv_iconst (pc := 25) (v := (-1 : Int32)) hx hb dX0_asks_25 (by decide) ?_
    cases hf
    exact x_iret (pc := 26) X V hr dX0_asks_26
  · replace hf := if_f hf c4
    refine lv_aload_n (pc := 8) hx hb dX0_asks_8 rfl (lv_at hl 0 rfl) ?_
    refine lv_iload_n (pc := 9) hx hb dX0_asks_9 rfl (lv_at hl 2 rfl) ?_
    replace hf := bs hf; obtain ⟨r5, hk_6, hf⟩ := hf
    refine x_callV0 (pc := 10) (As := [.int x2]) (rest := []) X V (mX0_isLane l D dA s0 hk_6) okX0 ht3 q576 q578 qs7 q119 q579 ⟨rfl, hsX0_isLane⟩ ⟨Nat.le_of_ble_eq_true rfl, Nat.le_of_ble_eq_true rfl⟩ rfl hl.1 rfl (Nat.le_of_ble_eq_true rfl) dX0_asks_10 ⟨Nat.zero_le _, Nat.zero_le _⟩ (fun H locs V => W.eq (g2 := F0 m 13 ls [.int r5]) rfl ?_)
    refine lv_if_eq (pc := 13) (tgt := 25) hx hb dX0_asks_13 (by decide) (fun c7 => ?_) (fun c7 => ?_)
    · replace hf := if_t hf c7
      refine lv_iconst (pc := 25) (v := (-1 : Int32)) hx hb dX0_asks_25 (by decide) ?_
      cases hf
      exact x_iret (pc := 26) X V hr dX0_asks_26
    · replace hf := if_f hf c7
      refine lv_iload_n (pc := 16) hx hb dX0_asks_16 rfl (lv_at hl 3 rfl) ?_
      refine lv_iconst (pc := 17) (v := (ii 0)) hx hb dX0_asks_17 (by decide) ?_
      refine lv_iconst (pc := 18) (v := (ii 1)) hx hb dX0_asks_18 (by decide) ?_
      replace hf := bs hf; obtain ⟨r8, hk_9, hf⟩ := hf
      refine x_callS0 (pc := 19) (As := [.int x3, .int (ii 0), .int (ii 1)]) (rest := []) X V (mX0_in l D dA s0 hk_9) q449 q450 q119 q451 hsX0_in ⟨Nat.le_of_ble_eq_true rfl, Nat.le_of_ble_eq_true rfl⟩ rfl hl.1 rfl (Nat.le_of_ble_eq_true rfl) dX0_asks_19 ⟨Nat.zero_le _, Nat.zero_le _⟩ (fun H locs V => W.eq (g2 := F0 m 22 ls [.int r8]) rfl ?_)
      refine lv_if_ne (pc := 22) (tgt := 27) hx hb dX0_asks_22 (by decide) (fun c10 => ?_) (fun c10 => ?_)
      · replace hf := if_f hf c10
        refine lv_iload_n (pc := 27) hx hb dX0_asks_27 rfl (lv_at hl 3 rfl) ?_
        refine lv_if_ne (pc := 28) (tgt := 44) hx hb dX0_asks_28 (by decide) (fun c11 => ?_) (fun c11 => ?_)
        · replace hf := if_f hf c11
          refine lv_aload_n (pc := 44) hx hb dX0_asks_44 rfl (lv_at hl 0 rfl) ?_
          refine lv_aload_n (pc := 45) hx hb dX0_asks_45 rfl (lv_at hl 0 rfl) ?_
          replace hf := bs hf; obtain ⟨r12, hk_13, hf⟩ := hf
          refine x_callV0 (pc := 46) (As := []) (rest := [.ref x0]) X V (mX0_table l D dA s0 hk_13) okX0 ht3 q568 q570 qs6 q119 q571 ⟨rfl, hsX0_table⟩ ⟨Nat.le_of_ble_eq_true rfl, Nat.le_of_ble_eq_true rfl⟩ rfl hl.1 rfl (Nat.le_of_ble_eq_true rfl) dX0_asks_46 ⟨Nat.zero_le _, Nat.zero_le _⟩ (fun H locs V => W.eq (g2 := F0 m 49 ls [.ref r12, .ref x0]) rfl ?_)
          refine lv_iload_n (pc := 49) hx hb dX0_asks_49 rfl (lv_at hl 1 rfl) ?_
          refine lv_iload_n (pc := 50) hx hb dX0_asks_50 rfl (lv_at hl 2 rfl) ?_
          replace hf := b2s hf; obtain ⟨r14, L15, hk_16, hf⟩ := hf
          refine x_callV0 (pc := 51) (As := [.ref r12, .int x1, .int x2]) (rest := []) X V (mX0_isBarred l D dA s0 hk_16) okX0 ht3 q687 q689 qs12 q119 q690 ⟨rfl, hsX0_isBarred⟩ ⟨Nat.le_of_ble_eq_true rfl, Nat.le_of_ble_eq_true rfl⟩ rfl hl.1 rfl (Nat.le_of_ble_eq_true rfl) dX0_asks_51 ⟨Nat.zero_le _, Nat.zero_le _⟩ (fun H locs V => W.eq (g2 := F0 m 54 ls [.int r14]) rfl ?_)
          refine lv_if_eq (pc := 54) (tgt := 61) hx hb dX0_asks_54 (by decide) (fun c17 => ?_) (fun c17 => ?_)
          · replace hf := if_t hf c17
            refine lv_iconst (pc := 61) (v := (ii 0)) hx hb dX0_asks_61 (by decide) ?_
            cases hf
            exact x_iret (pc := 62) X V hr dX0_asks_62
          · replace hf := if_f hf c17
            refine lv_iconst (pc := 57) (v := (ii 1)) hx hb dX0_asks_57 (by decide) ?_
            refine lv_goto (pc := 58) (tgt := 62) hx hb dX0_asks_58 (by decide) ?_
            cases hf
            exact x_iret (pc := 62) X V hr dX0_asks_62
        · replace hf := if_t hf c11
          refine lv_aload_n (pc := 31) hx hb dX0_asks_31 rfl (lv_at hl 0 rfl) ?_
          refine lv_aload_n (pc := 32) hx hb dX0_asks_32 rfl (lv_at hl 0 rfl) ?_
          replace hf := bs hf; obtain ⟨r18, hk_19, hf⟩ := hf
          refine x_callV0 (pc := 33) (As := []) (rest := [.ref x0]) X V (mX0_table l D dA s0 hk_19) okX0 ht3 q568 q570 qs6 q119 q571 ⟨rfl, hsX0_table⟩ ⟨Nat.le_of_ble_eq_true rfl, Nat.le_of_ble_eq_true rfl⟩ rfl hl.1 rfl (Nat.le_of_ble_eq_true rfl) dX0_asks_33 ⟨Nat.zero_le _, Nat.zero_le _⟩ (fun H locs V => W.eq (g2 := F0 m 36 ls [.ref r18, .ref x0]) rfl ?_)
          refine lv_iload_n (pc := 36) hx hb dX0_asks_36 rfl (lv_at hl 1 rfl) ?_
          refine lv_iload_n (pc := 37) hx hb dX0_asks_37 rfl (lv_at hl 2 rfl) ?_
          replace hf := b2s hf; obtain ⟨r20, L21, hk_22, hf⟩ := hf
          refine x_callV0 (pc := 38) (As := [.ref r18, .int x1, .int x2]) (rest := []) X V (mX0_says l D dA s0 hk_22) okX0 ht3 q695 q697 qs13 q119 q698 ⟨rfl, hsX0_says⟩ ⟨Nat.le_of_ble_eq_true rfl, Nat.le_of_ble_eq_true rfl⟩ rfl hl.1 rfl (Nat.le_of_ble_eq_true rfl) dX0_asks_38 ⟨Nat.zero_le _, Nat.zero_le _⟩ (fun H locs V => W.eq (g2 := F0 m 41 ls [.int r20]) rfl ?_)
          refine lv_goto (pc := 41) (tgt := 62) hx hb dX0_asks_41 (by decide) ?_
          cases hf
          exact x_iret (pc := 62) X V hr dX0_asks_62
      · replace hf := if_t hf c10
        refine lv_iconst (pc := 25) (v := (-1 : Int32)) hx hb dX0_asks_25 (by decide) ?_
        cases hf
        exact x_iret (pc := 26) X V hr dX0_asks_26
theorem mX0_asks {nf : Nat} (l : Launch) (D : va_G) (dA : Nat → ClassId) (s0 : Nat) {T : xT} {N : xT} {Z : Nat} {I : xI} {L : xL} {R : xR} {x0 : Nat} {x1 : Int32} {x2 : Int32} {x3 : Int32} {ro : Int32} {Lo : xL} (hf : fX0_asks nf T N I L R x0 x1 x2 x3 = some (ro, Lo)) : XMet l D dA s0 yX0_asks (ws_ yX0_asks cX0_asks 4 ((some .int))) (193) (9405) [.ref x0, .int x1, .int x2, .int x3] T N Z I L R (some (.int ro)) T N Z I Lo R 0 0 :=
  x_start (own := RX0) rfl (by decide) (Nat.le_of_ble_eq_true rfl) (lv := [(0, .ref x0), (1, .int x1), (2, .int x2), (3, .int x3)]) rfl (fun p e s m below meth c ls X hr hini V hl => wX0_asks_e X hr hf V hl)
set_option maxHeartbeats 400000 in
set_option maxRecDepth 100000 in
theorem wX0_terms_b81 {p : Program} {l : Launch} {e : Env} {s : State} {m : MethodId} {args : Array Value} {below : List Frame} {meth : Method} {c : Code} {D : va_G} {dA : Nat → ClassId} {s0 : Nat} {T : xT} {N : xT} {Z : Nat} {I : xI} {L : xL} {R : xR} {H : Heap} {locs : List Loc} {ls : Array Slot}  {x0 : Nat} {x1 : Int32} {x2 : Int32} {z0 : Int32} {ro : Int32} {Io : xI} (X : Cx D dA s0 p m c cX0_terms 4 s args RX0 meth) (hr : meth.sig.returnType = (some .int))   (hf : fX0_terms_b81 T N I R x0 x1 x2 z0 = some (ro, Io)) (V : Iv D dA s0 s T N Z I L R H locs) (hl : lv_has ls 4 [(0, .ref x0), (1, .int x1), (2, .int x2)]) : W p l e { frames := 2, cells := 0, slots := 0, locals := 42 } s m args below meth c H locs 0 0 (MQ below (xQ D dA s0 (some (.int ro)) T N Z Io L R) args s 0 0 (fun q => s0 ≤ q)) (F0 m 81 ls [.int z0]) := by
  have hx := X.1.1
  have hb := X.1.2.1
  unfold fX0_terms_b81 at hf
  refine lv_istore_n (pc := 81) (lv' := [(3, .int z0), (0, .ref x0), (1, .int x1), (2, .int x2)]) hx hb dX0_terms_81 rfl hl (by decide) rfl (fun ls hl => ?_)
  refine lv_iload_n (pc := 82) hx hb dX0_terms_82 rfl (lv_at hl 2 rfl) ?_
  refine lv_if_ne (pc := 83) (tgt := 97) hx hb dX0_terms_83 (by decide) (fun c1 => ?_) (fun c1 => ?_)
  · replace hf := if_f hf c1
    refine lv_iload_n (pc := 97) hx hb dX0_terms_97 rfl (lv_at hl 2 rfl) ?_
    refine lv_iconst (pc := 98) (v := (ii 1)) hx hb dX0_terms_98 (by decide) ?_
    refine lv_icmp_ne (pc := 99) (tgt := 113) hx hb dX0_terms_99 (by decide) (fun c2 => ?_) (fun c2 => ?_)
    · replace hf := if_f hf c2
      refine lv_aload_n (pc := 113) hx hb dX0_terms_113 rfl (lv_at hl 1 rfl) ?_
      replace hf := tg_s hf; obtain ⟨ht3, hf⟩ := hf
      replace hf := bs hf; obtain ⟨a4, ha4, hf⟩ := hf
      refine x_get (pc := 114) X V okX0 ht3 2 (by decide) q362 (v := va_rf (R x0 2)) rfl dX0_terms_114 ?_
      refine x_topr ha4 ?_
      refine lv_iload_n (pc := 117) hx hb dX0_terms_117 rfl (lv_at hl 3 rfl) ?_
      replace hf := tg_s hf; obtain ⟨ht5, hf⟩ := hf
      replace hf := nm_s hf; obtain ⟨I6, hI6, hf⟩ := hf
      refine x_putNi (pc := 118) X V okX1 (by decide) ht5 12 (by decide) q246 rfl hI6 (fun _ _ _ => rfl) rfl rfl dX0_terms_118 (fun H locs V => ?_)
      refine lv_aload_n (pc := 121) hx hb dX0_terms_121 rfl (lv_at hl 1 rfl) ?_
      refine lv_iload_n (pc := 122) hx hb dX0_terms_122 rfl (lv_at hl 0 rfl) ?_
      replace hf := b2s hf; obtain ⟨r7, I8, hk_9, hf⟩ := hf
      refine x_callV0 (pc := 123) (As := [.int z0]) (rest := []) X V (mX0_settled l D dA s0 hk_9) okX0 ht3 q550 q552 qs4 q119 q553 ⟨rfl, hsX0_settled⟩ ⟨Nat.le_of_ble_eq_true rfl, Nat.le_of_ble_eq_true rfl⟩ rfl hl.1 rfl (Nat.le_of_ble_eq_true rfl) dX0_terms_123 ⟨Nat.zero_le _, Nat.zero_le _⟩ (fun H locs V => W.eq (g2 := F0 m 126 ls [.int r7]) rfl ?_)
      cases hf
      exact x_iret (pc := 126) X V hr dX0_terms_126
    · replace hf := if_t hf c2
      refine lv_aload_n (pc := 102) hx hb dX0_terms_102 rfl (lv_at hl 1 rfl) ?_
      replace hf := tg_s hf; obtain ⟨ht10, hf⟩ := hf
      replace hf := bs hf; obtain ⟨a11, ha11, hf⟩ := hf
      refine x_get (pc := 103) X V okX0 ht10 2 (by decide) q362 (v := va_rf (R x0 2)) rfl dX0_terms_103 ?_
      refine x_topr ha11 ?_
      refine lv_iload_n (pc := 106) hx hb dX0_terms_106 rfl (lv_at hl 3 rfl) ?_
      replace hf := tg_s hf; obtain ⟨ht12, hf⟩ := hf
      replace hf := nm_s hf; obtain ⟨I13, hI13, hf⟩ := hf
      refine x_putNi (pc := 107) X V okX1 (by decide) ht12 11 (by decide) q244 rfl hI13 (fun _ _ _ => rfl) rfl rfl dX0_terms_107 (fun H locs V => ?_)
      refine lv_goto (pc := 110) (tgt := 121) hx hb dX0_terms_110 (by decide) ?_
      refine lv_aload_n (pc := 121) hx hb dX0_terms_121 rfl (lv_at hl 1 rfl) ?_
      refine lv_iload_n (pc := 122) hx hb dX0_terms_122 rfl (lv_at hl 0 rfl) ?_
      replace hf := b2s hf; obtain ⟨r14, I15, hk_16, hf⟩ := hf
      refine x_callV0 (pc := 123) (As := [.int z0]) (rest := []) X V (mX0_settled l D dA s0 hk_16) okX0 ht10 q550 q552 qs4 q119 q553 ⟨rfl, hsX0_settled⟩ ⟨Nat.le_of_ble_eq_true rfl, Nat.le_of_ble_eq_true rfl⟩ rfl hl.1 rfl (Nat.le_of_ble_eq_true rfl) dX0_terms_123 ⟨Nat.zero_le _, Nat.zero_le _⟩ (fun H locs V => W.eq (g2 := F0 m 126 ls [.int r14]) rfl ?_)
      cases hf
      exact x_iret (pc := 126) X V hr dX0_terms_126
  · replace hf := if_t hf c1
    refine lv_aload_n (pc := 86) hx hb dX0_terms_86 rfl (lv_at hl 1 rfl) ?_
    replace hf := tg_s hf; obtain ⟨ht19, hf⟩ := hf
    replace hf := bs hf; obtain ⟨r17, hk_18, hf⟩ := hf
    refine x_callV0 (pc := 87) (As := []) (rest := []) X V (mX0_table l D dA s0 hk_18) okX0 ht19 q568 q570 qs6 q119 q571 ⟨rfl, hsX0_table⟩ ⟨Nat.le_of_ble_eq_true rfl, Nat.le_of_ble_eq_true rfl⟩ rfl hl.1 rfl (Nat.le_of_ble_eq_true rfl) dX0_terms_87 ⟨Nat.zero_le _, Nat.zero_le _⟩ (fun H locs V => W.eq (g2 := F0 m 90 ls [.ref r17]) rfl ?_)
    refine lv_iload_n (pc := 90) hx hb dX0_terms_90 rfl (lv_at hl 3 rfl) ?_
    replace hf := tg_s hf; obtain ⟨ht20, hf⟩ := hf
    replace hf := nm_s hf; obtain ⟨I21, hI21, hf⟩ := hf
    refine x_putNi (pc := 91) X V okX2 (by decide) ht20 3 (by decide) q182 rfl hI21 (fun _ _ _ => rfl) rfl rfl dX0_terms_91 (fun H locs V => ?_)
    refine lv_goto (pc := 94) (tgt := 121) hx hb dX0_terms_94 (by decide) ?_
    refine lv_aload_n (pc := 121) hx hb dX0_terms_121 rfl (lv_at hl 1 rfl) ?_
    refine lv_iload_n (pc := 122) hx hb dX0_terms_122 rfl (lv_at hl 0 rfl) ?_
    replace hf := b2s hf; obtain ⟨r22, I23, hk_24, hf⟩ := hf
    refine x_callV0 (pc := 123) (As := [.int z0]) (rest := []) X V (mX0_settled l D dA s0 hk_24) okX0 ht19 q550 q552 qs4 q119 q553 ⟨rfl, hsX0_settled⟩ ⟨Nat.le_of_ble_eq_true rfl, Nat.le_of_ble_eq_true rfl⟩ rfl hl.1 rfl (Nat.le_of_ble_eq_true rfl) dX0_terms_123 ⟨Nat.zero_le _, Nat.zero_le _⟩ (fun H locs V => W.eq (g2 := F0 m 126 ls [.int r22]) rfl ?_)
    cases hf
    exact x_iret (pc := 126) X V hr dX0_terms_126
set_option maxHeartbeats 400000 in
set_option maxRecDepth 100000 in
theorem wX0_terms_b33 {p : Program} {l : Launch} {e : Env} {s : State} {m : MethodId} {args : Array Value} {below : List Frame} {meth : Method} {c : Code} {D : va_G} {dA : Nat → ClassId} {s0 : Nat} {T : xT} {N : xT} {Z : Nat} {I : xI} {L : xL} {R : xR} {H : Heap} {locs : List Loc} {ls : Array Slot}  {x0 : Nat} {x1 : Int32} {x2 : Int32} {z0 : Int32} {z1 : Int32} {z2 : Int32} {ro : Int32} {Io : xI} (X : Cx D dA s0 p m c cX0_terms 4 s args RX0 meth) (hr : meth.sig.returnType = (some .int))   (hf : fX0_terms_b33 T N I R x0 x1 x2 z0 z1 z2 = some (ro, Io)) (V : Iv D dA s0 s T N Z I L R H locs) (hl : lv_has ls 4 [(0, .ref x0), (1, .int x1), (2, .int x2)]) : W p l e { frames := 2, cells := 0, slots := 0, locals := 42 } s m args below meth c H locs 0 0 (MQ below (xQ D dA s0 (some (.int ro)) T N Z Io L R) args s 0 0 (fun q => s0 ≤ q)) (F0 m 33 ls [.int z2, .int z1, .int z0]) := by
  have hx := X.1.1
  have hb := X.1.2.1
  unfold fX0_terms_b33 at hf
  replace hf := bs hf; obtain ⟨r1, hk_2, hf⟩ := hf
  refine x_callS0 (pc := 33) (As := [.int z0, .int z1, .int z2]) (rest := []) X V (mX0_in l D dA s0 hk_2) q449 q450 q119 q451 hsX0_in ⟨Nat.le_of_ble_eq_true rfl, Nat.le_of_ble_eq_true rfl⟩ rfl hl.1 rfl (Nat.le_of_ble_eq_true rfl) dX0_terms_33 ⟨Nat.zero_le _, Nat.zero_le _⟩ (fun H locs V => W.eq (g2 := F0 m 36 ls [.int r1]) rfl ?_)
  refine lv_if_ne (pc := 36) (tgt := 45) hx hb dX0_terms_36 (by decide) (fun c3 => ?_) (fun c3 => ?_)
  · replace hf := if_f hf c3
    refine lv_iload_n (pc := 45) hx hb dX0_terms_45 rfl (lv_at hl 1 rfl) ?_
    refine lv_if_ne (pc := 46) (tgt := 59) hx hb dX0_terms_46 (by decide) (fun c4 => ?_) (fun c4 => ?_)
    · replace hf := if_f hf c4
      refine lv_iload_n (pc := 59) hx hb dX0_terms_59 rfl (lv_at hl 1 rfl) ?_
      refine lv_iconst (pc := 60) (v := (ii 1)) hx hb dX0_terms_60 (by decide) ?_
      refine lv_icmp_ne (pc := 61) (tgt := 74) hx hb dX0_terms_61 (by decide) (fun c5 => ?_) (fun c5 => ?_)
      · replace hf := if_f hf c5
        refine lv_aload_n (pc := 74) hx hb dX0_terms_74 rfl (lv_at hl 0 rfl) ?_
        replace hf := tg_s hf; obtain ⟨ht6, hf⟩ := hf
        replace hf := bs hf; obtain ⟨a7, ha7, hf⟩ := hf
        refine x_get (pc := 75) X V okX0 ht6 2 (by decide) q362 (v := va_rf (R x0 2)) rfl dX0_terms_75 ?_
        refine x_topr ha7 ?_
        replace hf := tg_s hf; obtain ⟨ht8, hf⟩ := hf
        refine x_getN (pc := 78) X V okX1 ht8 12 (by decide) q246 (v := .int (I a7 12)) rfl dX0_terms_78 ?_
        exact wX0_terms_b81 X hr hf V (lv_sub hl [0, 1, 2] rfl)
      · replace hf := if_t hf c5
        refine lv_aload_n (pc := 64) hx hb dX0_terms_64 rfl (lv_at hl 0 rfl) ?_
        replace hf := tg_s hf; obtain ⟨ht9, hf⟩ := hf
        replace hf := bs hf; obtain ⟨a10, ha10, hf⟩ := hf
        refine x_get (pc := 65) X V okX0 ht9 2 (by decide) q362 (v := va_rf (R x0 2)) rfl dX0_terms_65 ?_
        refine x_topr ha10 ?_
        replace hf := tg_s hf; obtain ⟨ht11, hf⟩ := hf
        refine x_getN (pc := 68) X V okX1 ht11 11 (by decide) q244 (v := .int (I a10 11)) rfl dX0_terms_68 ?_
        refine lv_goto (pc := 71) (tgt := 81) hx hb dX0_terms_71 (by decide) ?_
        exact wX0_terms_b81 X hr hf V (lv_sub hl [0, 1, 2] rfl)
    · replace hf := if_t hf c4
      refine lv_aload_n (pc := 49) hx hb dX0_terms_49 rfl (lv_at hl 0 rfl) ?_
      replace hf := tg_s hf; obtain ⟨ht14, hf⟩ := hf
      replace hf := bs hf; obtain ⟨r12, hk_13, hf⟩ := hf
      refine x_callV0 (pc := 50) (As := []) (rest := []) X V (mX0_table l D dA s0 hk_13) okX0 ht14 q568 q570 qs6 q119 q571 ⟨rfl, hsX0_table⟩ ⟨Nat.le_of_ble_eq_true rfl, Nat.le_of_ble_eq_true rfl⟩ rfl hl.1 rfl (Nat.le_of_ble_eq_true rfl) dX0_terms_50 ⟨Nat.zero_le _, Nat.zero_le _⟩ (fun H locs V => W.eq (g2 := F0 m 53 ls [.ref r12]) rfl ?_)
      replace hf := tg_s hf; obtain ⟨ht15, hf⟩ := hf
      refine x_getN (pc := 53) X V okX2 ht15 3 (by decide) q182 (v := .int (I r12 3)) rfl dX0_terms_53 ?_
      refine lv_goto (pc := 56) (tgt := 81) hx hb dX0_terms_56 (by decide) ?_
      exact wX0_terms_b81 X hr hf V (lv_sub hl [0, 1, 2] rfl)
  · replace hf := if_t hf c3
    refine lv_aload_n (pc := 39) hx hb dX0_terms_39 rfl (lv_at hl 0 rfl) ?_
    refine lv_iconst (pc := 40) (v := (-1 : Int32)) hx hb dX0_terms_40 (by decide) ?_
    replace hf := tg_s hf; obtain ⟨ht19, hf⟩ := hf
    replace hf := b2s hf; obtain ⟨r16, I17, hk_18, hf⟩ := hf
    refine x_callV0 (pc := 41) (As := [.int (-1 : Int32)]) (rest := []) X V (mX0_refuse l D dA s0 hk_18) okX0 ht19 q452 q454 qs1 q119 q455 ⟨rfl, hsX0_refuse⟩ ⟨Nat.le_of_ble_eq_true rfl, Nat.le_of_ble_eq_true rfl⟩ rfl hl.1 rfl (Nat.le_of_ble_eq_true rfl) dX0_terms_41 ⟨Nat.zero_le _, Nat.zero_le _⟩ (fun H locs V => W.eq (g2 := F0 m 44 ls [.int r16]) rfl ?_)
    cases hf
    exact x_iret (pc := 44) X V hr dX0_terms_44
set_option maxHeartbeats 400000 in
set_option maxRecDepth 100000 in
theorem wX0_terms_e {p : Program} {l : Launch} {e : Env} {s : State} {m : MethodId} {args : Array Value} {below : List Frame} {meth : Method} {c : Code} {D : va_G} {dA : Nat → ClassId} {s0 : Nat} {T : xT} {N : xT} {Z : Nat} {I : xI} {L : xL} {R : xR} {H : Heap} {locs : List Loc} {ls : Array Slot} {x0 : Nat} {x1 : Int32} {x2 : Int32} {ro : Int32} {Io : xI} (X : Cx D dA s0 p m c cX0_terms 4 s args RX0 meth) (hr : meth.sig.returnType = (some .int)) (hf : fX0_terms T N I R x0 x1 x2 = some (ro, Io)) (V : Iv D dA s0 s T N Z I L R H locs) (hl : lv_has ls 4 [(0, .ref x0), (1, .int x1), (2, .int x2)]) : W p l e { frames := 2, cells := 0, slots := 0, locals := 42 } s m args below meth c H locs 0 0 (MQ below (xQ D dA s0 (some (.int ro)) T N Z Io L R) args s 0 0 (fun q => s0 ≤ q)) (F0 m 0 ls []) := by
  have hx := X.1.1
  have hb := X.1.2.1
  unfold fX0_terms at hf
  refine lv_iload_n (pc := 0) hx hb dX0_terms_0 rfl (lv_at hl 1 rfl) ?_
  refine lv_iconst (pc := 1) (v := (ii 0)) hx hb dX0_terms_1 (by decide) ?_
  refine lv_iconst (pc := 2) (v := (ii 2)) hx hb dX0_terms_2 (by decide) ?_
  replace hf := bs hf; obtain ⟨r1, hk_2, hf⟩ := hf
  refine x_callS0 (pc := 3) (As := [.int x1, .int (ii 0), .int (ii 2)]) (rest := []) X V (mX0_in l D dA s0 hk_2) q449 q450 q119 q451 hsX0_in ⟨Nat.le_of_ble_eq_true rfl, Nat.le_of_ble_eq_true rfl⟩ rfl hl.1 rfl (Nat.le_of_ble_eq_true rfl) dX0_terms_3 ⟨Nat.zero_le _, Nat.zero_le _⟩ (fun H locs V => W.eq (g2 := F0 m 6 ls [.int r1]) rfl ?_)
  refine lv_if_eq (pc := 6) (tgt := 39) hx hb dX0_terms_6 (by decide) (fun c3 => ?_) (fun c3 => ?_)
  · replace hf := if_t hf c3
    refine lv_aload_n (pc := 39) hx hb dX0_terms_39 rfl (lv_at hl 0 rfl) ?_
    refine lv_iconst (pc := 40) (v := (-1 : Int32)) hx hb dX0_terms_40 (by decide) ?_
    replace hf := tg_s hf; obtain ⟨ht7, hf⟩ := hf
    replace hf := b2s hf; obtain ⟨r4, I5, hk_6, hf⟩ := hf
    refine x_callV0 (pc := 41) (As := [.int (-1 : Int32)]) (rest := []) X V (mX0_refuse l D dA s0 hk_6) okX0 ht7 q452 q454 qs1 q119 q455 ⟨rfl, hsX0_refuse⟩ ⟨Nat.le_of_ble_eq_true rfl, Nat.le_of_ble_eq_true rfl⟩ rfl hl.1 rfl (Nat.le_of_ble_eq_true rfl) dX0_terms_41 ⟨Nat.zero_le _, Nat.zero_le _⟩ (fun H locs V => W.eq (g2 := F0 m 44 ls [.int r4]) rfl ?_)
    cases hf
    exact x_iret (pc := 44) X V hr dX0_terms_44
  · replace hf := if_f hf c3
    refine lv_iload_n (pc := 9) hx hb dX0_terms_9 rfl (lv_at hl 2 rfl) ?_
    refine lv_iconst (pc := 10) (v := (ii 0)) hx hb dX0_terms_10 (by decide) ?_
    refine lv_iload_n (pc := 11) hx hb dX0_terms_11 rfl (lv_at hl 1 rfl) ?_
    refine lv_if_ne (pc := 12) (tgt := 21) hx hb dX0_terms_12 (by decide) (fun c8 => ?_) (fun c8 => ?_)
    · replace hf := if_f hf c8
      refine lv_iload_n (pc := 21) hx hb dX0_terms_21 rfl (lv_at hl 1 rfl) ?_
      refine lv_iconst (pc := 22) (v := (ii 1)) hx hb dX0_terms_22 (by decide) ?_
      refine lv_icmp_ne (pc := 23) (tgt := 31) hx hb dX0_terms_23 (by decide) (fun c9 => ?_) (fun c9 => ?_)
      · replace hf := if_f hf c9
        refine lv_bipush (pc := 31) (v := (ii 9)) hx hb dX0_terms_31 (by decide) ?_
        exact wX0_terms_b33 X hr hf V (lv_sub hl [0, 1, 2] rfl)
      · replace hf := if_t hf c9
        refine lv_bipush (pc := 26) (v := (ii 10)) hx hb dX0_terms_26 (by decide) ?_
        refine lv_goto (pc := 28) (tgt := 33) hx hb dX0_terms_28 (by decide) ?_
        exact wX0_terms_b33 X hr hf V (lv_sub hl [0, 1, 2] rfl)
    · replace hf := if_t hf c8
      refine lv_sipush (pc := 15) (v := (ii 999)) hx hb dX0_terms_15 (by decide) ?_
      refine lv_goto (pc := 18) (tgt := 33) hx hb dX0_terms_18 (by decide) ?_
      exact wX0_terms_b33 X hr hf V (lv_sub hl [0, 1, 2] rfl)
theorem mX0_terms (l : Launch) (D : va_G) (dA : Nat → ClassId) (s0 : Nat) {T : xT} {N : xT} {Z : Nat} {I : xI} {L : xL} {R : xR} {x0 : Nat} {x1 : Int32} {x2 : Int32} {ro : Int32} {Io : xI} (hf : fX0_terms T N I R x0 x1 x2 = some (ro, Io)) : XMet l D dA s0 yX0_terms (ws_ yX0_terms cX0_terms 4 ((some .int))) (2) (42) [.ref x0, .int x1, .int x2] T N Z I L R (some (.int ro)) T N Z Io L R 0 0 :=
  x_start (own := RX0) rfl (by decide) (Nat.le_of_ble_eq_true rfl) (lv := [(0, .ref x0), (1, .int x1), (2, .int x2)]) rfl (fun p e s m below meth c ls X hr hini V hl => wX0_terms_e X hr hf V hl)
set_option maxHeartbeats 400000 in
set_option maxRecDepth 100000 in
theorem wX0_four_b3 {nf : Nat} {p : Program} {l : Launch} {e : Env} {s : State} {m : MethodId} {args : Array Value} {below : List Frame} {meth : Method} {c : Code} {D : va_G} {dA : Nat → ClassId} {s0 : Nat} {T : xT} {N : xT} {Z : Nat} {L : xL} {R : xR}  {Io : xI} (X : Cx D dA s0 p m c cX0_four 3 s args RX0 meth) (hr : meth.sig.returnType = none)   (k : Nat) : ∀ {I : xI} {x0 : Nat} {x1 : Int32} {x2 : Int32} {H : Heap} {locs : List Loc} {ls : Array Slot} , fX0_four_b3 nf T N R k I x0 x1 x2 = some Io → Iv D dA s0 s T N Z I L R H locs → lv_has ls 3 [(0, .ref x0), (1, .int x1), (2, .int x2)] → W p l e { frames := 0, cells := 0, slots := 0, locals := 0 } s m args below meth c H locs 0 0 (MQ below (xQ D dA s0 none T N Z Io L R) args s 0 0 (fun q => s0 ≤ q)) (F0 m 3 ls []) := by
  have hx := X.1.1
  have hb := X.1.2.1
  induction k with
  | zero =>
    intro I x0 x1 x2 H locs ls hf V hl
    exact absurd (show none = some _ from hf) (fun q => nomatch q)
  | succ k ih =>
    intro I x0 x1 x2 H locs ls hf V hl
    rw [fX0_four_b3] at hf
    refine lv_iload_n (pc := 3) hx hb dX0_four_3 rfl (lv_at hl 2 rfl) ?_
    refine lv_if_lt (pc := 4) (tgt := 36) hx hb dX0_four_4 (by decide) (fun c1 => ?_) (fun c1 => ?_)
    · replace hf := if_t hf c1
      cases hf
      exact x_vret (pc := 36) X V hr dX0_four_36
    · replace hf := if_f hf c1
      refine lv_aload_n (pc := 7) hx hb dX0_four_7 rfl (lv_at hl 0 rfl) ?_
      replace hf := tg_s hf; obtain ⟨ht2, hf⟩ := hf
      replace hf := bs hf; obtain ⟨a3, ha3, hf⟩ := hf
      refine x_get (pc := 8) X V okX0 ht2 10 (by decide) q370 (v := va_rf (R x0 10)) rfl dX0_four_8 ?_
      refine x_topr ha3 ?_
      refine lv_aload_n (pc := 11) hx hb dX0_four_11 rfl (lv_at hl 0 rfl) ?_
      refine x_get (pc := 12) X V okX0 ht2 11 (by decide) q371 (v := .int (I x0 11)) rfl dX0_four_12 ?_
      refine lv_iload_n (pc := 15) hx hb dX0_four_15 rfl (lv_at hl 1 rfl) ?_
      refine lv_iload_n (pc := 16) hx hb dX0_four_16 rfl (lv_at hl 2 rfl) ?_
      refine lv_ishr (pc := 17) hx hb dX0_four_17 ?_
      refine lv_i2b (pc := 18) hx hb dX0_four_18 rfl ?_
      replace hf := rA_s hf; obtain ⟨j4, hjj4, htj4, hij4, hf⟩ := hf
      replace hf := nm_s hf; obtain ⟨I5, hI5, hf⟩ := hf
      refine x_bast (pc := 19) X V htj4 hij4 hjj4 hI5 dX0_four_19 (fun H locs V => ?_)
      refine lv_aload_n (pc := 20) hx hb dX0_four_20 rfl (lv_at hl 0 rfl) ?_
      refine lv_dup (pc := 21) hx hb dX0_four_21 rfl ?_
      refine x_get (pc := 22) X V okX0 ht2 11 (by decide) q371 (v := .int (I5 x0 11)) rfl dX0_four_22 ?_
      refine lv_iconst (pc := 25) (v := (ii 1)) hx hb dX0_four_25 (by decide) ?_
      refine lv_iadd (pc := 26) hx hb dX0_four_26 ?_
      replace hf := nm_s hf; obtain ⟨I6, hI6, hf⟩ := hf
      refine x_puti (pc := 27) X V okX0 (by decide) ht2 11 (by decide) q371 (Or.inl rfl) hI6 (fun _ _ _ => rfl) rfl rfl dX0_four_27 (fun H locs V => ?_)
      replace hf := nm_s hf; obtain ⟨u7, hu7, hf⟩ := hf
      refine lv_iinc (pc := 30) (v := u7) (lv' := [(2, .int u7), (0, .ref x0), (1, .int x1)]) hx hb dX0_four_30 hl (k := 2) rfl (by rw [hu7]; rfl) (by decide) rfl (fun ls hl => ?_)
      refine lv_goto (pc := 33) (tgt := 3) hx hb dX0_four_33 (by decide) ?_
      exact ih hf V (lv_sub hl [1, 2, 0] rfl)
set_option maxHeartbeats 400000 in
set_option maxRecDepth 100000 in
theorem wX0_four_e {nf : Nat} {p : Program} {l : Launch} {e : Env} {s : State} {m : MethodId} {args : Array Value} {below : List Frame} {meth : Method} {c : Code} {D : va_G} {dA : Nat → ClassId} {s0 : Nat} {T : xT} {N : xT} {Z : Nat} {I : xI} {L : xL} {R : xR} {H : Heap} {locs : List Loc} {ls : Array Slot} {x0 : Nat} {x1 : Int32} {Io : xI} (X : Cx D dA s0 p m c cX0_four 3 s args RX0 meth) (hr : meth.sig.returnType = none) (hf : fX0_four nf T N I R x0 x1 = some Io) (V : Iv D dA s0 s T N Z I L R H locs) (hl : lv_has ls 3 [(0, .ref x0), (1, .int x1)]) : W p l e { frames := 0, cells := 0, slots := 0, locals := 0 } s m args below meth c H locs 0 0 (MQ below (xQ D dA s0 none T N Z Io L R) args s 0 0 (fun q => s0 ≤ q)) (F0 m 0 ls []) := by
  have hx := X.1.1
  have hb := X.1.2.1
  unfold fX0_four at hf
  refine lv_bipush (pc := 0) (v := (ii 24)) hx hb dX0_four_0 (by decide) ?_
  refine lv_istore_n (pc := 2) (lv' := [(2, .int (ii 24)), (0, .ref x0), (1, .int x1)]) hx hb dX0_four_2 rfl hl (by decide) rfl (fun ls hl => ?_)
  exact wX0_four_b3 X hr nf hf V (lv_sub hl [1, 2, 0] rfl)
theorem mX0_four {nf : Nat} (l : Launch) (D : va_G) (dA : Nat → ClassId) (s0 : Nat) {T : xT} {N : xT} {Z : Nat} {I : xI} {L : xL} {R : xR} {x0 : Nat} {x1 : Int32} {Io : xI} (hf : fX0_four nf T N I R x0 x1 = some Io) : XMet l D dA s0 yX0_four (ws_ yX0_four cX0_four 3 (none)) (0) (0) [.ref x0, .int x1] T N Z I L R none T N Z Io L R 0 0 :=
  x_start (own := RX0) rfl (by decide) (Nat.le_of_ble_eq_true rfl) (lv := [(0, .ref x0), (1, .int x1)]) rfl (fun p e s m below meth c ls X hr hini V hl => wX0_four_e X hr hf V hl)
