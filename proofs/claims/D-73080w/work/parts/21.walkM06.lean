set_option maxHeartbeats 400000 in
set_option maxRecDepth 100000 in
theorem wX5_far_e {nf : Nat} {p : Program} {l : Launch} {e : Env} {s : State} {m : MethodId} {args : Array Value} {below : List Frame} {meth : Method} {c : Code} {D : va_G} {dA : Nat → ClassId} {s0 : Nat} {T : xT} {N : xT} {Z : Nat} {I : xI} {L : xL} {R : xR} {H : Heap} {locs : List Loc} {ls : Array Slot} {x0 : Nat} {x1 : Int32} {x2 : Int32} {ro : Int32} {Io : xI} (X : Cx D dA s0 p m c cX5_far 3 s args RX5 meth) (hr : meth.sig.returnType = (some .int)) (hf : fX5_far nf T N I R x0 x1 x2 = some (ro, Io)) (V : Iv D dA s0 s T N Z I L R H locs) (hl : lv_has ls 3 [(0, .ref x0), (1, .int x1), (2, .int x2)]) : W p l e { frames := 2, cells := 0, slots := 0, locals := 45 } s m args below meth c H locs 0 0 (MQ below (xQ D dA s0 (some (.int ro)) T N Z Io L R) args s 0 0 (fun q => s0 ≤ q)) (F0 m 0 ls []) := by
  have hx := X.1.1
  have hb := X.1.2.1
  unfold fX5_far at hf
  refine lv_aload_n (pc := 0) hx hb dX5_far_0 rfl (lv_at hl 0 rfl) ?_
  refine lv_iconst (pc := 1) (v := (ii 0)) hx hb dX5_far_1 (by decide) ?_
  replace hf := tg_s hf; obtain ⟨ht1, hf⟩ := hf
  replace hf := nm_s hf; obtain ⟨I2, hI2, hf⟩ := hf
  refine x_puti (pc := 2) X V okX5 (by decide) ht1 0 (by decide) q1521 (Or.inl rfl) hI2 (fun _ _ _ => rfl) rfl rfl dX5_far_2 (fun H locs V => ?_)
  refine lv_iload_n (pc := 5) hx hb dX5_far_5 rfl (lv_at hl 1 rfl) ?_
  replace hf := bs hf; obtain ⟨r3, hk_4, hf⟩ := hf
  refine x_callS0 (pc := 6) (As := [.int x1]) (rest := []) X V (mX5_isCorner l D dA s0 hk_4) q1732 q1733 q129 q1734 hsX5_isCorner ⟨Nat.le_of_ble_eq_true rfl, Nat.le_of_ble_eq_true rfl⟩ rfl hl.1 rfl (Nat.le_of_ble_eq_true rfl) dX5_far_6 ⟨Nat.zero_le _, Nat.zero_le _⟩ (fun H locs V => W.eq (g2 := F0 m 9 ls [.int r3]) rfl ?_)
  refine lv_if_eq (pc := 9) (tgt := 19) hx hb dX5_far_9 (by decide) (fun c5 => ?_) (fun c5 => ?_)
  · replace hf := if_t hf c5
    refine lv_iconst (pc := 19) (v := (-1 : Int32)) hx hb dX5_far_19 (by decide) ?_
    cases hf
    exact x_iret (pc := 20) X V hr dX5_far_20
  · replace hf := if_f hf c5
    refine lv_iload_n (pc := 12) hx hb dX5_far_12 rfl (lv_at hl 2 rfl) ?_
    replace hf := bs hf; obtain ⟨r6, hk_7, hf⟩ := hf
    refine x_callS0 (pc := 13) (As := [.int x2]) (rest := []) X V (mX5_isCorner l D dA s0 hk_7) q1732 q1733 q129 q1734 hsX5_isCorner ⟨Nat.le_of_ble_eq_true rfl, Nat.le_of_ble_eq_true rfl⟩ rfl hl.1 rfl (Nat.le_of_ble_eq_true rfl) dX5_far_13 ⟨Nat.zero_le _, Nat.zero_le _⟩ (fun H locs V => W.eq (g2 := F0 m 16 ls [.int r6]) rfl ?_)
    refine lv_if_ne (pc := 16) (tgt := 21) hx hb dX5_far_16 (by decide) (fun c8 => ?_) (fun c8 => ?_)
    · replace hf := if_f hf c8
      refine lv_aload_n (pc := 21) hx hb dX5_far_21 rfl (lv_at hl 0 rfl) ?_
      replace hf := bs hf; obtain ⟨I9, hk_10, hf⟩ := hf
      refine x_callV0 (pc := 22) (As := []) (rest := []) X V (mX5_layFar l D dA s0 hk_10) okX5 ht1 q2034 q2036 qs97 q129 q2037 ⟨rfl, hsX5_layFar⟩ ⟨Nat.le_of_ble_eq_true rfl, Nat.le_of_ble_eq_true rfl⟩ rfl hl.1 rfl (Nat.le_of_ble_eq_true rfl) dX5_far_22 ⟨Nat.zero_le _, Nat.zero_le _⟩ (fun H locs V => W.eq (g2 := F0 m 25 ls []) rfl ?_)
      refine lv_aload_n (pc := 25) hx hb dX5_far_25 rfl (lv_at hl 0 rfl) ?_
      refine lv_iload_n (pc := 26) hx hb dX5_far_26 rfl (lv_at hl 1 rfl) ?_
      refine lv_iload_n (pc := 27) hx hb dX5_far_27 rfl (lv_at hl 2 rfl) ?_
      replace hf := bs hf; obtain ⟨r11, hk_12, hf⟩ := hf
      refine x_callV0 (pc := 28) (As := [.int x1, .int x2]) (rest := []) X V (mX5_farOf l D dA s0 hk_12) okX5 ht1 q2039 q2041 qs98 q129 q2042 ⟨rfl, hsX5_farOf⟩ ⟨Nat.le_of_ble_eq_true rfl, Nat.le_of_ble_eq_true rfl⟩ rfl hl.1 rfl (Nat.le_of_ble_eq_true rfl) dX5_far_28 ⟨Nat.zero_le _, Nat.zero_le _⟩ (fun H locs V => W.eq (g2 := F0 m 31 ls [.int r11]) rfl ?_)
      refine lv_ldcw (pc := 31) (v := (ii 100000000)) hx hb X.1.2.2.2.1 (X.1.2.2.2.2 _ q2038) dX5_far_31 ?_
      refine lv_icmp_ne (pc := 34) (tgt := 41) hx hb dX5_far_34 (by decide) (fun c13 => ?_) (fun c13 => ?_)
      · replace hf := if_f hf c13
        refine lv_aload_n (pc := 41) hx hb dX5_far_41 rfl (lv_at hl 0 rfl) ?_
        refine lv_iload_n (pc := 42) hx hb dX5_far_42 rfl (lv_at hl 1 rfl) ?_
        refine lv_iload_n (pc := 43) hx hb dX5_far_43 rfl (lv_at hl 2 rfl) ?_
        replace hf := bs hf; obtain ⟨r14, hk_15, hf⟩ := hf
        refine x_callV0 (pc := 44) (As := [.int x1, .int x2]) (rest := []) X V (mX5_farOf l D dA s0 hk_15) okX5 ht1 q2039 q2041 qs98 q129 q2042 ⟨rfl, hsX5_farOf⟩ ⟨Nat.le_of_ble_eq_true rfl, Nat.le_of_ble_eq_true rfl⟩ rfl hl.1 rfl (Nat.le_of_ble_eq_true rfl) dX5_far_44 ⟨Nat.zero_le _, Nat.zero_le _⟩ (fun H locs V => W.eq (g2 := F0 m 47 ls [.int r14]) rfl ?_)
        cases hf
        exact x_iret (pc := 47) X V hr dX5_far_47
      · replace hf := if_t hf c13
        refine lv_iconst (pc := 37) (v := (-1 : Int32)) hx hb dX5_far_37 (by decide) ?_
        refine lv_goto (pc := 38) (tgt := 47) hx hb dX5_far_38 (by decide) ?_
        cases hf
        exact x_iret (pc := 47) X V hr dX5_far_47
    · replace hf := if_t hf c8
      refine lv_iconst (pc := 19) (v := (-1 : Int32)) hx hb dX5_far_19 (by decide) ?_
      cases hf
      exact x_iret (pc := 20) X V hr dX5_far_20
theorem mX5_far {nf : Nat} (l : Launch) (D : va_G) (dA : Nat → ClassId) (s0 : Nat) {T : xT} {N : xT} {Z : Nat} {I : xI} {L : xL} {R : xR} {x0 : Nat} {x1 : Int32} {x2 : Int32} {ro : Int32} {Io : xI} (hf : fX5_far nf T N I R x0 x1 x2 = some (ro, Io)) : XMet l D dA s0 yX5_far (ws_ yX5_far cX5_far 3 ((some .int))) (2) (45) [.ref x0, .int x1, .int x2] T N Z I L R (some (.int ro)) T N Z Io L R 0 0 :=
  x_start (own := RX5) rfl (by decide) (Nat.le_of_ble_eq_true rfl) (lv := [(0, .ref x0), (1, .int x1), (2, .int x2)]) rfl (fun p e s m below meth c ls X hr hini V hl => wX5_far_e X hr hf V hl)
set_option maxHeartbeats 400000 in
set_option maxRecDepth 100000 in
theorem wX5_foundAt_b43 {nf : Nat} {p : Program} {l : Launch} {e : Env} {s : State} {m : MethodId} {args : Array Value} {below : List Frame} {meth : Method} {c : Code} {D : va_G} {dA : Nat → ClassId} {s0 : Nat} {T : xT} {N : xT} {Z : Nat} {I : xI} {L : xL} {R : xR} {H : Heap} {locs : List Loc} {ls : Array Slot}  {x0 : Nat} {x3 : Int32} {ro : Int32} {Io : xI} {Lo : xL} (X : Cx D dA s0 p m c cX5_foundAt 4 s args RX5 meth) (hr : meth.sig.returnType = (some .int))   (hf : fX5_foundAt_b43 nf T N I L R x0 x3 = some (ro, Io, Lo)) (V : Iv D dA s0 s T N Z I L R H locs) (hl : lv_has ls 4 [(0, .ref x0), (3, .int x3)]) : W p l e { frames := 9, cells := 0, slots := 0, locals := 213 } s m args below meth c H locs 0 0 (MQ below (xQ D dA s0 (some (.int ro)) T N Z Io Lo R) args s 0 0 (fun q => s0 ≤ q)) (F0 m 43 ls []) := by
  have hx := X.1.1
  have hb := X.1.2.1
  unfold fX5_foundAt_b43 at hf
  refine lv_aload_n (pc := 43) hx hb dX5_foundAt_43 rfl (lv_at hl 0 rfl) ?_
  refine lv_bipush (pc := 44) (v := (ii 16)) hx hb dX5_foundAt_44 (by decide) ?_
  replace hf := tg_s hf; obtain ⟨ht3, hf⟩ := hf
  replace hf := bs hf; obtain ⟨I1, hk_2, hf⟩ := hf
  refine x_callV0 (pc := 46) (As := [.int (ii 16)]) (rest := []) X V (mX5_putBack l D dA s0 hk_2) okX5 ht3 q1705 q1707 qs46 q129 q1708 ⟨rfl, hsX5_putBack⟩ ⟨Nat.le_of_ble_eq_true rfl, Nat.le_of_ble_eq_true rfl⟩ rfl hl.1 rfl (Nat.le_of_ble_eq_true rfl) dX5_foundAt_46 ⟨Nat.zero_le _, Nat.zero_le _⟩ (fun H locs V => W.eq (g2 := F0 m 49 ls []) rfl ?_)
  refine lv_iload_n (pc := 49) hx hb dX5_foundAt_49 rfl (lv_at hl 1 rfl) ?_
  refine lv_bipush (pc := 50) (v := (ii 60)) hx hb dX5_foundAt_50 (by decide) ?_
  refine lv_icmp_le (pc := 52) (tgt := 61) hx hb dX5_foundAt_52 (by decide) (fun c4 => ?_) (fun c4 => ?_)
  · replace hf := if_t hf c4
    refine lv_iload_n (pc := 61) hx hb dX5_foundAt_61 rfl (lv_at hl 1 rfl) ?_
    cases hf
    exact x_iret (pc := 62) X V hr dX5_foundAt_62
  · replace hf := if_f hf c4
    refine lv_ldcw (pc := 55) (v := (ii 100000000)) hx hb X.1.2.2.2.1 (X.1.2.2.2.2 _ q2038) dX5_foundAt_55 ?_
    refine lv_goto (pc := 58) (tgt := 62) hx hb dX5_foundAt_58 (by decide) ?_
    cases hf
    exact x_iret (pc := 62) X V hr dX5_foundAt_62
set_option maxHeartbeats 400000 in
set_option maxRecDepth 100000 in
theorem wX5_foundAt_b8 {nf : Nat} {p : Program} {l : Launch} {e : Env} {s : State} {m : MethodId} {args : Array Value} {below : List Frame} {meth : Method} {c : Code} {D : va_G} {dA : Nat → ClassId} {s0 : Nat} {T : xT} {N : xT} {Z : Nat} {R : xR}  {ro : Int32} {Io : xI} {Lo : xL} (X : Cx D dA s0 p m c cX5_foundAt 4 s args RX5 meth) (hr : meth.sig.returnType = (some .int))   (k : Nat) : ∀ {I : xI} {L : xL} {x0 : Nat} {x1 : Int32} {x2 : Int32} {x3 : Int32} {H : Heap} {locs : List Loc} {ls : Array Slot} , fX5_foundAt_b8 nf T N R k I L x0 x1 x2 x3 = some (ro, Io, Lo) → Iv D dA s0 s T N Z I L R H locs → lv_has ls 4 [(0, .ref x0), (1, .int x1), (2, .int x2), (3, .int x3)] → W p l e { frames := 9, cells := 0, slots := 0, locals := 213 } s m args below meth c H locs 0 0 (MQ below (xQ D dA s0 (some (.int ro)) T N Z Io Lo R) args s 0 0 (fun q => s0 ≤ q)) (F0 m 8 ls []) := by
  have hx := X.1.1
  have hb := X.1.2.1
  induction k with
  | zero =>
    intro I L x0 x1 x2 x3 H locs ls hf V hl
    exact absurd (show none = some _ from hf) (fun q => nomatch q)
  | succ k ih =>
    intro I L x0 x1 x2 x3 H locs ls hf V hl
    rw [fX5_foundAt_b8] at hf
    refine lv_iload_n (pc := 8) hx hb dX5_foundAt_8 rfl (lv_at hl 3 rfl) ?_
    refine lv_bipush (pc := 9) (v := (ii 60)) hx hb dX5_foundAt_9 (by decide) ?_
    refine lv_icmp_gt (pc := 11) (tgt := 43) hx hb dX5_foundAt_11 (by decide) (fun c1 => ?_) (fun c1 => ?_)
    · replace hf := if_t hf c1
      exact wX5_foundAt_b43 X hr hf V (lv_sub hl [0, 3] rfl)
    · replace hf := if_f hf c1
      refine lv_aload_n (pc := 14) hx hb dX5_foundAt_14 rfl (lv_at hl 0 rfl) ?_
      refine lv_iload_n (pc := 15) hx hb dX5_foundAt_15 rfl (lv_at hl 1 rfl) ?_
      refine lv_aload_n (pc := 16) hx hb dX5_foundAt_16 rfl (lv_at hl 0 rfl) ?_
      replace hf := tg_s hf; obtain ⟨ht2, hf⟩ := hf
      replace hf := bs hf; obtain ⟨a3, ha3, hf⟩ := hf
      refine x_get (pc := 17) X V okX5 ht2 3 (by decide) q1524 (v := va_rf (R x0 3)) rfl dX5_foundAt_17 ?_
      refine x_topr ha3 ?_
      refine lv_bipush (pc := 20) (v := (ii 18)) hx hb dX5_foundAt_20 (by decide) ?_
      refine lv_iload_n (pc := 22) hx hb dX5_foundAt_22 rfl (lv_at hl 2 rfl) ?_
      refine lv_iadd (pc := 23) hx hb dX5_foundAt_23 ?_
      replace hf := rA_s hf; obtain ⟨j4, hjj4, htj4, hij4, hf⟩ := hf
      refine x_iald (pc := 24) X V htj4 hij4 hjj4 dX5_foundAt_24 ?_
      replace hf := bs hf; obtain ⟨r5, hk_6, hf⟩ := hf
      refine x_callV0 (pc := 25) (As := [.int x1, .int (I a3 j4)]) (rest := []) X V (mX5_farOf l D dA s0 hk_6) okX5 ht2 q2039 q2041 qs98 q129 q2042 ⟨rfl, hsX5_farOf⟩ ⟨Nat.le_of_ble_eq_true rfl, Nat.le_of_ble_eq_true rfl⟩ rfl hl.1 rfl (Nat.le_of_ble_eq_true rfl) dX5_foundAt_25 ⟨Nat.zero_le _, Nat.zero_le _⟩ (fun H locs V => W.eq (g2 := F0 m 28 ls [.int r5]) rfl ?_)
      refine lv_iload_n (pc := 28) hx hb dX5_foundAt_28 rfl (lv_at hl 3 rfl) ?_
      refine lv_icmp_le (pc := 29) (tgt := 43) hx hb dX5_foundAt_29 (by decide) (fun c7 => ?_) (fun c7 => ?_)
      · replace hf := if_t hf c7
        exact wX5_foundAt_b43 X hr hf V (lv_sub hl [0, 3] rfl)
      · replace hf := if_f hf c7
        refine lv_aload_n (pc := 32) hx hb dX5_foundAt_32 rfl (lv_at hl 0 rfl) ?_
        replace hf := b3s hf; obtain ⟨r8, I9, L10, hk_11, hf⟩ := hf
        refine x_callV0 (pc := 33) (As := []) (rest := []) X V (mX5_passIt l D dA s0 hk_11) okX5 ht2 q2021 q2023 qs96 q129 q2024 ⟨rfl, hsX5_passIt⟩ ⟨Nat.le_of_ble_eq_true rfl, Nat.le_of_ble_eq_true rfl⟩ rfl hl.1 rfl (Nat.le_of_ble_eq_true rfl) dX5_foundAt_33 ⟨Nat.zero_le _, Nat.zero_le _⟩ (fun H locs V => W.eq (g2 := F0 m 36 ls [.int r8]) rfl ?_)
        refine lv_pop (pc := 36) hx hb dX5_foundAt_36 rfl ?_
        replace hf := nm_s hf; obtain ⟨u12, hu12, hf⟩ := hf
        refine lv_iinc (pc := 37) (v := u12) (lv' := [(3, .int u12), (0, .ref x0), (1, .int x1), (2, .int x2)]) hx hb dX5_foundAt_37 hl (k := 3) rfl (by rw [hu12]; rfl) (by decide) rfl (fun ls hl => ?_)
        refine lv_goto (pc := 40) (tgt := 8) hx hb dX5_foundAt_40 (by decide) ?_
        exact ih hf V (lv_sub hl [1, 2, 3, 0] rfl)
set_option maxHeartbeats 400000 in
set_option maxRecDepth 100000 in
theorem wX5_foundAt_e {nf : Nat} {p : Program} {l : Launch} {e : Env} {s : State} {m : MethodId} {args : Array Value} {below : List Frame} {meth : Method} {c : Code} {D : va_G} {dA : Nat → ClassId} {s0 : Nat} {T : xT} {N : xT} {Z : Nat} {I : xI} {L : xL} {R : xR} {H : Heap} {locs : List Loc} {ls : Array Slot} {x0 : Nat} {x1 : Int32} {x2 : Int32} {ro : Int32} {Io : xI} {Lo : xL} (X : Cx D dA s0 p m c cX5_foundAt 4 s args RX5 meth) (hr : meth.sig.returnType = (some .int)) (hf : fX5_foundAt nf T N I L R x0 x1 x2 = some (ro, Io, Lo)) (V : Iv D dA s0 s T N Z I L R H locs) (hl : lv_has ls 4 [(0, .ref x0), (1, .int x1), (2, .int x2)]) : W p l e { frames := 9, cells := 0, slots := 0, locals := 213 } s m args below meth c H locs 0 0 (MQ below (xQ D dA s0 (some (.int ro)) T N Z Io Lo R) args s 0 0 (fun q => s0 ≤ q)) (F0 m 0 ls []) := by
  have hx := X.1.1
  have hb := X.1.2.1
  unfold fX5_foundAt at hf
  refine lv_aload_n (pc := 0) hx hb dX5_foundAt_0 rfl (lv_at hl 0 rfl) ?_
  refine lv_bipush (pc := 1) (v := (ii 16)) hx hb dX5_foundAt_1 (by decide) ?_
  replace hf := tg_s hf; obtain ⟨ht3, hf⟩ := hf
  replace hf := bs hf; obtain ⟨I1, hk_2, hf⟩ := hf
  refine x_callV0 (pc := 3) (As := [.int (ii 16)]) (rest := []) X V (mX5_keepAll l D dA s0 hk_2) okX5 ht3 q1981 q1983 qs89 q129 q1984 ⟨rfl, hsX5_keepAll⟩ ⟨Nat.le_of_ble_eq_true rfl, Nat.le_of_ble_eq_true rfl⟩ rfl hl.1 rfl (Nat.le_of_ble_eq_true rfl) dX5_foundAt_3 ⟨Nat.zero_le _, Nat.zero_le _⟩ (fun H locs V => W.eq (g2 := F0 m 6 ls []) rfl ?_)
  refine lv_iconst (pc := 6) (v := (ii 0)) hx hb dX5_foundAt_6 (by decide) ?_
  refine lv_istore_n (pc := 7) (lv' := [(3, .int (ii 0)), (0, .ref x0), (1, .int x1), (2, .int x2)]) hx hb dX5_foundAt_7 rfl hl (by decide) rfl (fun ls hl => ?_)
  exact wX5_foundAt_b8 X hr nf hf V (lv_sub hl [1, 2, 3, 0] rfl)
theorem mX5_foundAt {nf : Nat} (l : Launch) (D : va_G) (dA : Nat → ClassId) (s0 : Nat) {T : xT} {N : xT} {Z : Nat} {I : xI} {L : xL} {R : xR} {x0 : Nat} {x1 : Int32} {x2 : Int32} {ro : Int32} {Io : xI} {Lo : xL} (hf : fX5_foundAt nf T N I L R x0 x1 x2 = some (ro, Io, Lo)) : XMet l D dA s0 yX5_foundAt (ws_ yX5_foundAt cX5_foundAt 4 ((some .int))) (9) (213) [.ref x0, .int x1, .int x2] T N Z I L R (some (.int ro)) T N Z Io Lo R 0 0 :=
  x_start (own := RX5) rfl (by decide) (Nat.le_of_ble_eq_true rfl) (lv := [(0, .ref x0), (1, .int x1), (2, .int x2)]) rfl (fun p e s m below meth c ls X hr hini V hl => wX5_foundAt_e X hr hf V hl)
set_option maxHeartbeats 400000 in
set_option maxRecDepth 100000 in
theorem wX5_found_e {nf : Nat} {p : Program} {l : Launch} {e : Env} {s : State} {m : MethodId} {args : Array Value} {below : List Frame} {meth : Method} {c : Code} {D : va_G} {dA : Nat → ClassId} {s0 : Nat} {T : xT} {N : xT} {Z : Nat} {I : xI} {L : xL} {R : xR} {H : Heap} {locs : List Loc} {ls : Array Slot} {x0 : Nat} {x1 : Int32} {x2 : Int32} {ro : Int32} {Io : xI} {Lo : xL} (X : Cx D dA s0 p m c cX5_found 4 s args RX5 meth) (hr : meth.sig.returnType = (some .int)) (hf : fX5_found nf T N I L R x0 x1 x2 = some (ro, Io, Lo)) (V : Iv D dA s0 s T N Z I L R H locs) (hl : lv_has ls 4 [(0, .ref x0), (1, .int x1), (2, .int x2)]) : W p l e { frames := 10, cells := 0, slots := 0, locals := 236 } s m args below meth c H locs 0 0 (MQ below (xQ D dA s0 (some (.int ro)) T N Z Io Lo R) args s 0 0 (fun q => s0 ≤ q)) (F0 m 0 ls []) := by
  have hx := X.1.1
  have hb := X.1.2.1
  unfold fX5_found at hf
  refine lv_aload_n (pc := 0) hx hb dX5_found_0 rfl (lv_at hl 0 rfl) ?_
  refine lv_iconst (pc := 1) (v := (ii 0)) hx hb dX5_found_1 (by decide) ?_
  replace hf := tg_s hf; obtain ⟨ht1, hf⟩ := hf
  replace hf := nm_s hf; obtain ⟨I2, hI2, hf⟩ := hf
  refine x_puti (pc := 2) X V okX5 (by decide) ht1 0 (by decide) q1521 (Or.inl rfl) hI2 (fun _ _ _ => rfl) rfl rfl dX5_found_2 (fun H locs V => ?_)
  refine lv_iload_n (pc := 5) hx hb dX5_found_5 rfl (lv_at hl 1 rfl) ?_
  replace hf := bs hf; obtain ⟨r3, hk_4, hf⟩ := hf
  refine x_callS0 (pc := 6) (As := [.int x1]) (rest := []) X V (mX5_isCorner l D dA s0 hk_4) q1732 q1733 q129 q1734 hsX5_isCorner ⟨Nat.le_of_ble_eq_true rfl, Nat.le_of_ble_eq_true rfl⟩ rfl hl.1 rfl (Nat.le_of_ble_eq_true rfl) dX5_found_6 ⟨Nat.zero_le _, Nat.zero_le _⟩ (fun H locs V => W.eq (g2 := F0 m 9 ls [.int r3]) rfl ?_)
  refine lv_if_eq (pc := 9) (tgt := 20) hx hb dX5_found_9 (by decide) (fun c5 => ?_) (fun c5 => ?_)
  · replace hf := if_t hf c5
    refine lv_iconst (pc := 20) (v := (-1 : Int32)) hx hb dX5_found_20 (by decide) ?_
    cases hf
    exact x_iret (pc := 21) X V hr dX5_found_21
  · replace hf := if_f hf c5
    refine lv_aload_n (pc := 12) hx hb dX5_found_12 rfl (lv_at hl 0 rfl) ?_
    refine lv_iload_n (pc := 13) hx hb dX5_found_13 rfl (lv_at hl 2 rfl) ?_
    replace hf := bs hf; obtain ⟨r6, hk_7, hf⟩ := hf
    refine x_callV0 (pc := 14) (As := [.int x2]) (rest := []) X V (mX5_isChild l D dA s0 hk_7) okX5 ht1 q1754 q1756 qs50 q129 q1757 ⟨rfl, hsX5_isChild⟩ ⟨Nat.le_of_ble_eq_true rfl, Nat.le_of_ble_eq_true rfl⟩ rfl hl.1 rfl (Nat.le_of_ble_eq_true rfl) dX5_found_14 ⟨Nat.zero_le _, Nat.zero_le _⟩ (fun H locs V => W.eq (g2 := F0 m 17 ls [.int r6]) rfl ?_)
    refine lv_if_ne (pc := 17) (tgt := 22) hx hb dX5_found_17 (by decide) (fun c8 => ?_) (fun c8 => ?_)
    · replace hf := if_f hf c8
      refine lv_aload_n (pc := 22) hx hb dX5_found_22 rfl (lv_at hl 0 rfl) ?_
      replace hf := bs hf; obtain ⟨I9, hk_10, hf⟩ := hf
      refine x_callV0 (pc := 23) (As := []) (rest := []) X V (mX5_layFar l D dA s0 hk_10) okX5 ht1 q2034 q2036 qs97 q129 q2037 ⟨rfl, hsX5_layFar⟩ ⟨Nat.le_of_ble_eq_true rfl, Nat.le_of_ble_eq_true rfl⟩ rfl hl.1 rfl (Nat.le_of_ble_eq_true rfl) dX5_found_23 ⟨Nat.zero_le _, Nat.zero_le _⟩ (fun H locs V => W.eq (g2 := F0 m 26 ls []) rfl ?_)
      refine lv_aload_n (pc := 26) hx hb dX5_found_26 rfl (lv_at hl 0 rfl) ?_
      refine lv_iload_n (pc := 27) hx hb dX5_found_27 rfl (lv_at hl 1 rfl) ?_
      refine lv_iload_n (pc := 28) hx hb dX5_found_28 rfl (lv_at hl 2 rfl) ?_
      replace hf := b3s hf; obtain ⟨r11, I12, L13, hk_14, hf⟩ := hf
      refine x_callV0 (pc := 29) (As := [.int x1, .int x2]) (rest := []) X V (mX5_foundAt l D dA s0 hk_14) okX5 ht1 q2047 q2049 qs99 q129 q2050 ⟨rfl, hsX5_foundAt⟩ ⟨Nat.le_of_ble_eq_true rfl, Nat.le_of_ble_eq_true rfl⟩ rfl hl.1 rfl (Nat.le_of_ble_eq_true rfl) dX5_found_29 ⟨Nat.zero_le _, Nat.zero_le _⟩ (fun H locs V => W.eq (g2 := F0 m 32 ls [.int r11]) rfl ?_)
      refine lv_istore_n (pc := 32) (lv' := [(3, .int r11), (0, .ref x0), (1, .int x1), (2, .int x2)]) hx hb dX5_found_32 rfl hl (by decide) rfl (fun ls hl => ?_)
      refine lv_iload_n (pc := 33) hx hb dX5_found_33 rfl (lv_at hl 0 rfl) ?_
      refine lv_ldcw (pc := 34) (v := (ii 100000000)) hx hb X.1.2.2.2.1 (X.1.2.2.2.2 _ q2038) dX5_found_34 ?_
      refine lv_icmp_ne (pc := 37) (tgt := 44) hx hb dX5_found_37 (by decide) (fun c15 => ?_) (fun c15 => ?_)
      · replace hf := if_f hf c15
        refine lv_iload_n (pc := 44) hx hb dX5_found_44 rfl (lv_at hl 0 rfl) ?_
        cases hf
        exact x_iret (pc := 45) X V hr dX5_found_45
      · replace hf := if_t hf c15
        refine lv_iconst (pc := 40) (v := (-1 : Int32)) hx hb dX5_found_40 (by decide) ?_
        refine lv_goto (pc := 41) (tgt := 45) hx hb dX5_found_41 (by decide) ?_
        cases hf
        exact x_iret (pc := 45) X V hr dX5_found_45
    · replace hf := if_t hf c8
      refine lv_iconst (pc := 20) (v := (-1 : Int32)) hx hb dX5_found_20 (by decide) ?_
      cases hf
      exact x_iret (pc := 21) X V hr dX5_found_21
theorem mX5_found {nf : Nat} (l : Launch) (D : va_G) (dA : Nat → ClassId) (s0 : Nat) {T : xT} {N : xT} {Z : Nat} {I : xI} {L : xL} {R : xR} {x0 : Nat} {x1 : Int32} {x2 : Int32} {ro : Int32} {Io : xI} {Lo : xL} (hf : fX5_found nf T N I L R x0 x1 x2 = some (ro, Io, Lo)) : XMet l D dA s0 yX5_found (ws_ yX5_found cX5_found 4 ((some .int))) (10) (236) [.ref x0, .int x1, .int x2] T N Z I L R (some (.int ro)) T N Z Io Lo R 0 0 :=
  x_start (own := RX5) rfl (by decide) (Nat.le_of_ble_eq_true rfl) (lv := [(0, .ref x0), (1, .int x1), (2, .int x2)]) rfl (fun p e s m below meth c ls X hr hini V hl => wX5_found_e X hr hf V hl)
set_option maxHeartbeats 400000 in
set_option maxRecDepth 100000 in
theorem wX5_post_b107 {nf : Nat} {p : Program} {l : Launch} {e : Env} {s : State} {m : MethodId} {args : Array Value} {below : List Frame} {meth : Method} {c : Code} {D : va_G} {dA : Nat → ClassId} {s0 : Nat} {T : xT} {N : xT} {Z : Nat} {I : xI} {L : xL} {R : xR} {H : Heap} {locs : List Loc} {ls : Array Slot} {kk39 : xI → xL → Nat → Int32 → Int32 → Int32 → Int32 → Option (Int32 × xI × xL)} {x0 : Nat} {x1 : Int32} {x2 : Int32} {x4 : Int32} {x5 : Int32} {z0 : Int32} {ro : Int32} {Io : xI} {Lo : xL} (X : Cx D dA s0 p m c cX5_post 8 s args RX5 meth) (hr : meth.sig.returnType = (some .int)) (hk39 : ∀ {I : xI} {L : xL} {x0 : Nat} {x1 : Int32} {x2 : Int32} {x3 : Int32} {x4 : Int32} {H : Heap} {locs : List Loc} {ls : Array Slot} , kk39 I L x0 x1 x2 x3 x4 = some (ro, Io, Lo) → Iv D dA s0 s T N Z I L R H locs → lv_has ls 8 [(0, .ref x0), (1, .int x1), (2, .int x2), (3, .int x3), (4, .int x4)] → W p l e { frames := 10, cells := 0, slots := 0, locals := 236 } s m args below meth c H locs 0 0 (MQ below (xQ D dA s0 (some (.int ro)) T N Z Io Lo R) args s 0 0 (fun q => s0 ≤ q)) (F0 m 39 ls []))  (hf : fX5_post_b107 nf kk39 T N I L R x0 x1 x2 x4 x5 z0 = some (ro, Io, Lo)) (V : Iv D dA s0 s T N Z I L R H locs) (hl : lv_has ls 8 [(0, .ref x0), (1, .int x1), (2, .int x2), (4, .int x4), (5, .int x5)]) : W p l e { frames := 10, cells := 0, slots := 0, locals := 236 } s m args below meth c H locs 0 0 (MQ below (xQ D dA s0 (some (.int ro)) T N Z Io Lo R) args s 0 0 (fun q => s0 ≤ q)) (F0 m 107 ls [.int z0]) := by
  have hx := X.1.1
  have hb := X.1.2.1
  unfold fX5_post_b107 at hf
  refine lv_istore_n (pc := 107) (lv' := [(3, .int z0), (0, .ref x0), (1, .int x1), (2, .int x2), (4, .int x4), (5, .int x5)]) hx hb dX5_post_107 rfl hl (by decide) rfl (fun ls hl => ?_)
  refine lv_iload (pc := 108) hx hb dX5_post_108 (lv_at hl 5 rfl) ?_
  refine lv_iload_n (pc := 110) hx hb dX5_post_110 rfl (lv_at hl 3 rfl) ?_
  refine lv_icmp_ge (pc := 111) (tgt := 119) hx hb dX5_post_111 (by decide) (fun c1 => ?_) (fun c1 => ?_)
  · replace hf := if_t hf c1
    refine lv_iload_n (pc := 119) hx hb dX5_post_119 rfl (lv_at hl 3 rfl) ?_
    refine lv_istore_n (pc := 120) (lv' := [(2, .int x2), (3, .int z0), (0, .ref x0), (1, .int x1), (4, .int x4), (5, .int x5)]) hx hb dX5_post_120 rfl hl (by decide) rfl (fun ls hl => ?_)
    replace hf := nm_s hf; obtain ⟨u2, hu2, hf⟩ := hf
    refine lv_iinc (pc := 121) (v := u2) (lv' := [(4, .int u2), (2, .int x2), (3, .int z0), (0, .ref x0), (1, .int x1), (5, .int x5)]) hx hb dX5_post_121 hl (k := 4) rfl (by rw [hu2]; rfl) (by decide) rfl (fun ls hl => ?_)
    refine lv_goto (pc := 124) (tgt := 39) hx hb dX5_post_124 (by decide) ?_
    exact hk39 hf V (lv_sub hl [3, 4, 1, 2, 0] rfl)
  · replace hf := if_f hf c1
    refine lv_iload (pc := 114) hx hb dX5_post_114 (lv_at hl 5 rfl) ?_
    refine lv_goto (pc := 116) (tgt := 120) hx hb dX5_post_116 (by decide) ?_
    refine lv_istore_n (pc := 120) (lv' := [(2, .int x5), (3, .int z0), (0, .ref x0), (1, .int x1), (4, .int x4), (5, .int x5)]) hx hb dX5_post_120 rfl hl (by decide) rfl (fun ls hl => ?_)
    replace hf := nm_s hf; obtain ⟨u3, hu3, hf⟩ := hf
    refine lv_iinc (pc := 121) (v := u3) (lv' := [(4, .int u3), (2, .int x5), (3, .int z0), (0, .ref x0), (1, .int x1), (5, .int x5)]) hx hb dX5_post_121 hl (k := 4) rfl (by rw [hu3]; rfl) (by decide) rfl (fun ls hl => ?_)
    refine lv_goto (pc := 124) (tgt := 39) hx hb dX5_post_124 (by decide) ?_
    exact hk39 hf V (lv_sub hl [3, 4, 1, 2, 0] rfl)
set_option maxHeartbeats 400000 in
set_option maxRecDepth 100000 in
theorem wX5_post_b52 {nf : Nat} {p : Program} {l : Launch} {e : Env} {s : State} {m : MethodId} {args : Array Value} {below : List Frame} {meth : Method} {c : Code} {D : va_G} {dA : Nat → ClassId} {s0 : Nat} {T : xT} {N : xT} {Z : Nat} {R : xR} {kk39 : xI → xL → Nat → Int32 → Int32 → Int32 → Int32 → Option (Int32 × xI × xL)} {ro : Int32} {Io : xI} {Lo : xL} (X : Cx D dA s0 p m c cX5_post 8 s args RX5 meth) (hr : meth.sig.returnType = (some .int)) (hk39 : ∀ {I : xI} {L : xL} {x0 : Nat} {x1 : Int32} {x2 : Int32} {x3 : Int32} {x4 : Int32} {H : Heap} {locs : List Loc} {ls : Array Slot} , kk39 I L x0 x1 x2 x3 x4 = some (ro, Io, Lo) → Iv D dA s0 s T N Z I L R H locs → lv_has ls 8 [(0, .ref x0), (1, .int x1), (2, .int x2), (3, .int x3), (4, .int x4)] → W p l e { frames := 10, cells := 0, slots := 0, locals := 236 } s m args below meth c H locs 0 0 (MQ below (xQ D dA s0 (some (.int ro)) T N Z Io Lo R) args s 0 0 (fun q => s0 ≤ q)) (F0 m 39 ls []))  (k : Nat) : ∀ {I : xI} {L : xL} {x0 : Nat} {x1 : Int32} {x2 : Int32} {x3 : Int32} {x4 : Int32} {x5 : Int32} {x6 : Int32} {H : Heap} {locs : List Loc} {ls : Array Slot} , fX5_post_b52 nf kk39 T N R k I L x0 x1 x2 x3 x4 x5 x6 = some (ro, Io, Lo) → Iv D dA s0 s T N Z I L R H locs → lv_has ls 8 [(0, .ref x0), (1, .int x1), (2, .int x2), (3, .int x3), (4, .int x4), (5, .int x5), (6, .int x6)] → W p l e { frames := 10, cells := 0, slots := 0, locals := 236 } s m args below meth c H locs 0 0 (MQ below (xQ D dA s0 (some (.int ro)) T N Z Io Lo R) args s 0 0 (fun q => s0 ≤ q)) (F0 m 52 ls []) := by
  have hx := X.1.1
  have hb := X.1.2.1
  induction k with
  | zero =>
    intro I L x0 x1 x2 x3 x4 x5 x6 H locs ls hf V hl
    exact absurd (show none = some _ from hf) (fun q => nomatch q)
  | succ k ih =>
    intro I L x0 x1 x2 x3 x4 x5 x6 H locs ls hf V hl
    rw [fX5_post_b52] at hf
    refine lv_iload (pc := 52) hx hb dX5_post_52 (lv_at hl 6 rfl) ?_
    refine lv_aload_n (pc := 54) hx hb dX5_post_54 rfl (lv_at hl 0 rfl) ?_
    replace hf := tg_s hf; obtain ⟨ht1, hf⟩ := hf
    replace hf := bs hf; obtain ⟨a2, ha2, hf⟩ := hf
    refine x_get (pc := 55) X V okX5 ht1 3 (by decide) q1524 (v := va_rf (R x0 3)) rfl dX5_post_55 ?_
    refine x_topr ha2 ?_
    refine lv_iconst (pc := 58) (v := (ii 1)) hx hb dX5_post_58 (by decide) ?_
    replace hf := rA_s hf; obtain ⟨j3, hjj3, htj3, hij3, hf⟩ := hf
    refine x_iald (pc := 59) X V htj3 hij3 hjj3 dX5_post_59 ?_
    refine lv_icmp_ge (pc := 60) (tgt := 95) hx hb dX5_post_60 (by decide) (fun c4 => ?_) (fun c4 => ?_)
    · replace hf := if_t hf c4
      refine lv_iload (pc := 95) hx hb dX5_post_95 (lv_at hl 5 rfl) ?_
      refine lv_iload_n (pc := 97) hx hb dX5_post_97 rfl (lv_at hl 2 rfl) ?_
      refine lv_icmp_ge (pc := 98) (tgt := 106) hx hb dX5_post_98 (by decide) (fun c5 => ?_) (fun c5 => ?_)
      · replace hf := if_t hf c5
        refine lv_iload_n (pc := 106) hx hb dX5_post_106 rfl (lv_at hl 3 rfl) ?_
        exact wX5_post_b107 X hr hk39 hf V (lv_sub hl [0, 1, 2, 4, 5] rfl)
      · replace hf := if_f hf c5
        refine lv_iload (pc := 101) hx hb dX5_post_101 (lv_at hl 4 rfl) ?_
        refine lv_goto (pc := 103) (tgt := 107) hx hb dX5_post_103 (by decide) ?_
        exact wX5_post_b107 X hr hk39 hf V (lv_sub hl [0, 1, 2, 4, 5] rfl)
    · replace hf := if_f hf c4
      refine lv_aload_n (pc := 63) hx hb dX5_post_63 rfl (lv_at hl 0 rfl) ?_
      refine lv_iload (pc := 64) hx hb dX5_post_64 (lv_at hl 4 rfl) ?_
      refine lv_iload (pc := 66) hx hb dX5_post_66 (lv_at hl 6 rfl) ?_
      replace hf := b3s hf; obtain ⟨r6, I7, L8, hk_9, hf⟩ := hf
      refine x_callV0 (pc := 68) (As := [.int x4, .int x6]) (rest := []) X V (mX5_foundAt l D dA s0 hk_9) okX5 ht1 q2047 q2049 qs99 q129 q2050 ⟨rfl, hsX5_foundAt⟩ ⟨Nat.le_of_ble_eq_true rfl, Nat.le_of_ble_eq_true rfl⟩ rfl hl.1 rfl (Nat.le_of_ble_eq_true rfl) dX5_post_68 ⟨Nat.zero_le _, Nat.zero_le _⟩ (fun H locs V => W.eq (g2 := F0 m 71 ls [.int r6]) rfl ?_)
      refine lv_istore (pc := 71) (lv' := [(7, .int r6), (0, .ref x0), (1, .int x1), (2, .int x2), (3, .int x3), (4, .int x4), (5, .int x5), (6, .int x6)]) hx hb dX5_post_71 hl (by decide) rfl (fun ls hl => ?_)
      refine lv_iload (pc := 73) hx hb dX5_post_73 (lv_at hl 0 rfl) ?_
      refine lv_iload (pc := 75) hx hb dX5_post_75 (lv_at hl 6 rfl) ?_
      refine lv_icmp_le (pc := 77) (tgt := 85) hx hb dX5_post_77 (by decide) (fun c10 => ?_) (fun c10 => ?_)
      · replace hf := if_t hf c10
        refine lv_iload (pc := 85) hx hb dX5_post_85 (lv_at hl 6 rfl) ?_
        refine lv_istore (pc := 87) (lv' := [(5, .int x5), (7, .int r6), (0, .ref x0), (1, .int x1), (2, .int x2), (3, .int x3), (4, .int x4), (6, .int x6)]) hx hb dX5_post_87 hl (by decide) rfl (fun ls hl => ?_)
        replace hf := nm_s hf; obtain ⟨u11, hu11, hf⟩ := hf
        refine lv_iinc (pc := 89) (v := u11) (lv' := [(6, .int u11), (5, .int x5), (7, .int r6), (0, .ref x0), (1, .int x1), (2, .int x2), (3, .int x3), (4, .int x4)]) hx hb dX5_post_89 hl (k := 7) rfl (by rw [hu11]; rfl) (by decide) rfl (fun ls hl => ?_)
        refine lv_goto (pc := 92) (tgt := 52) hx hb dX5_post_92 (by decide) ?_
        exact ih hf V (lv_sub hl [3, 4, 5, 6, 7, 1, 0] rfl)
      · replace hf := if_f hf c10
        refine lv_iload (pc := 80) hx hb dX5_post_80 (lv_at hl 0 rfl) ?_
        refine lv_goto (pc := 82) (tgt := 87) hx hb dX5_post_82 (by decide) ?_
        refine lv_istore (pc := 87) (lv' := [(5, .int r6), (7, .int r6), (0, .ref x0), (1, .int x1), (2, .int x2), (3, .int x3), (4, .int x4), (6, .int x6)]) hx hb dX5_post_87 hl (by decide) rfl (fun ls hl => ?_)
        replace hf := nm_s hf; obtain ⟨u12, hu12, hf⟩ := hf
        refine lv_iinc (pc := 89) (v := u12) (lv' := [(6, .int u12), (5, .int r6), (7, .int r6), (0, .ref x0), (1, .int x1), (2, .int x2), (3, .int x3), (4, .int x4)]) hx hb dX5_post_89 hl (k := 7) rfl (by rw [hu12]; rfl) (by decide) rfl (fun ls hl => ?_)
        refine lv_goto (pc := 92) (tgt := 52) hx hb dX5_post_92 (by decide) ?_
        exact ih hf V (lv_sub hl [3, 4, 5, 6, 7, 1, 0] rfl)
set_option maxHeartbeats 400000 in
set_option maxRecDepth 100000 in
theorem wX5_post_b39 {nf : Nat} {p : Program} {l : Launch} {e : Env} {s : State} {m : MethodId} {args : Array Value} {below : List Frame} {meth : Method} {c : Code} {D : va_G} {dA : Nat → ClassId} {s0 : Nat} {T : xT} {N : xT} {Z : Nat} {R : xR}  {ro : Int32} {Io : xI} {Lo : xL} (X : Cx D dA s0 p m c cX5_post 8 s args RX5 meth) (hr : meth.sig.returnType = (some .int))   (k : Nat) : ∀ {I : xI} {L : xL} {x0 : Nat} {x1 : Int32} {x2 : Int32} {x3 : Int32} {x4 : Int32} {H : Heap} {locs : List Loc} {ls : Array Slot} , fX5_post_b39 nf T N R k I L x0 x1 x2 x3 x4 = some (ro, Io, Lo) → Iv D dA s0 s T N Z I L R H locs → lv_has ls 8 [(0, .ref x0), (1, .int x1), (2, .int x2), (3, .int x3), (4, .int x4)] → W p l e { frames := 10, cells := 0, slots := 0, locals := 236 } s m args below meth c H locs 0 0 (MQ below (xQ D dA s0 (some (.int ro)) T N Z Io Lo R) args s 0 0 (fun q => s0 ≤ q)) (F0 m 39 ls []) := by
  have hx := X.1.1
  have hb := X.1.2.1
  induction k with
  | zero =>
    intro I L x0 x1 x2 x3 x4 H locs ls hf V hl
    exact absurd (show none = some _ from hf) (fun q => nomatch q)
  | succ k ih =>
    intro I L x0 x1 x2 x3 x4 H locs ls hf V hl
    rw [fX5_post_b39] at hf
    refine lv_iload (pc := 39) hx hb dX5_post_39 (lv_at hl 4 rfl) ?_
    refine lv_bipush (pc := 41) (v := (ii 8)) hx hb dX5_post_41 (by decide) ?_
    refine lv_icmp_ge (pc := 43) (tgt := 127) hx hb dX5_post_43 (by decide) (fun c1 => ?_) (fun c1 => ?_)
    · replace hf := if_t hf c1
      refine lv_iload_n (pc := 127) hx hb dX5_post_127 rfl (lv_at hl 3 rfl) ?_
      refine lv_iconst (pc := 128) (v := (-1 : Int32)) hx hb dX5_post_128 (by decide) ?_
      refine lv_icmp_eq (pc := 129) (tgt := 136) hx hb dX5_post_129 (by decide) (fun c2 => ?_) (fun c2 => ?_)
      · replace hf := if_t hf c2
        refine lv_iload_n (pc := 136) hx hb dX5_post_136 rfl (lv_at hl 3 rfl) ?_
        refine lv_goto (pc := 137) (tgt := 141) hx hb dX5_post_137 (by decide) ?_
        cases hf
        exact x_iret (pc := 141) X V hr dX5_post_141
      · replace hf := if_f hf c2
        refine lv_iload_n (pc := 132) hx hb dX5_post_132 rfl (lv_at hl 1 rfl) ?_
        refine lv_if_ne (pc := 133) (tgt := 140) hx hb dX5_post_133 (by decide) (fun c3 => ?_) (fun c3 => ?_)
        · replace hf := if_f hf c3
          refine lv_iload_n (pc := 140) hx hb dX5_post_140 rfl (lv_at hl 2 rfl) ?_
          cases hf
          exact x_iret (pc := 141) X V hr dX5_post_141
        · replace hf := if_t hf c3
          refine lv_iload_n (pc := 136) hx hb dX5_post_136 rfl (lv_at hl 3 rfl) ?_
          refine lv_goto (pc := 137) (tgt := 141) hx hb dX5_post_137 (by decide) ?_
          cases hf
          exact x_iret (pc := 141) X V hr dX5_post_141
    · replace hf := if_f hf c1
      refine lv_iconst (pc := 46) (v := (ii 0)) hx hb dX5_post_46 (by decide) ?_
      refine lv_istore (pc := 47) (lv' := [(5, .int (ii 0)), (0, .ref x0), (1, .int x1), (2, .int x2), (3, .int x3), (4, .int x4)]) hx hb dX5_post_47 hl (by decide) rfl (fun ls hl => ?_)
      refine lv_iconst (pc := 49) (v := (ii 0)) hx hb dX5_post_49 (by decide) ?_
      refine lv_istore (pc := 50) (lv' := [(6, .int (ii 0)), (5, .int (ii 0)), (0, .ref x0), (1, .int x1), (2, .int x2), (3, .int x3), (4, .int x4)]) hx hb dX5_post_50 hl (by decide) rfl (fun ls hl => ?_)
      exact wX5_post_b52 X hr ih nf hf V (lv_sub hl [2, 3, 4, 5, 6, 1, 0] rfl)
set_option maxHeartbeats 400000 in
set_option maxRecDepth 100000 in
theorem wX5_post_e {nf : Nat} {p : Program} {l : Launch} {e : Env} {s : State} {m : MethodId} {args : Array Value} {below : List Frame} {meth : Method} {c : Code} {D : va_G} {dA : Nat → ClassId} {s0 : Nat} {T : xT} {N : xT} {Z : Nat} {I : xI} {L : xL} {R : xR} {H : Heap} {locs : List Loc} {ls : Array Slot} {x0 : Nat} {x1 : Int32} {ro : Int32} {Io : xI} {Lo : xL} (X : Cx D dA s0 p m c cX5_post 8 s args RX5 meth) (hr : meth.sig.returnType = (some .int)) (hf : fX5_post nf T N I L R x0 x1 = some (ro, Io, Lo)) (V : Iv D dA s0 s T N Z I L R H locs) (hl : lv_has ls 8 [(0, .ref x0), (1, .int x1)]) : W p l e { frames := 10, cells := 0, slots := 0, locals := 236 } s m args below meth c H locs 0 0 (MQ below (xQ D dA s0 (some (.int ro)) T N Z Io Lo R) args s 0 0 (fun q => s0 ≤ q)) (F0 m 0 ls []) := by
  have hx := X.1.1
  have hb := X.1.2.1
  unfold fX5_post at hf
  refine lv_aload_n (pc := 0) hx hb dX5_post_0 rfl (lv_at hl 0 rfl) ?_
  refine lv_iconst (pc := 1) (v := (ii 0)) hx hb dX5_post_1 (by decide) ?_
  replace hf := tg_s hf; obtain ⟨ht1, hf⟩ := hf
  replace hf := nm_s hf; obtain ⟨I2, hI2, hf⟩ := hf
  refine x_puti (pc := 2) X V okX5 (by decide) ht1 0 (by decide) q1521 (Or.inl rfl) hI2 (fun _ _ _ => rfl) rfl rfl dX5_post_2 (fun H locs V => ?_)
  refine lv_iload_n (pc := 5) hx hb dX5_post_5 rfl (lv_at hl 1 rfl) ?_
  refine lv_i2l (pc := 6) hx hb dX5_post_6 rfl ?_
  refine lv_lconst (pc := 7) (v := (jj 0)) hx hb dX5_post_7 (by decide) ?_
  refine lv_lconst (pc := 8) (v := (jj 1)) hx hb dX5_post_8 (by decide) ?_
  replace hf := bs hf; obtain ⟨r3, hk_4, hf⟩ := hf
  refine x_callS0 (pc := 9) (As := [.long ((x1).toInt64), .long (jj 0), .long (jj 1)]) (rest := []) X V (mX5_in l D dA s0 hk_4) q1713 q1714 q129 q1715 hsX5_in ⟨Nat.le_of_ble_eq_true rfl, Nat.le_of_ble_eq_true rfl⟩ rfl hl.1 rfl (Nat.le_of_ble_eq_true rfl) dX5_post_9 ⟨Nat.zero_le _, Nat.zero_le _⟩ (fun H locs V => W.eq (g2 := F0 m 12 ls [.int r3]) rfl ?_)
  refine lv_if_eq (pc := 12) (tgt := 24) hx hb dX5_post_12 (by decide) (fun c5 => ?_) (fun c5 => ?_)
  · replace hf := if_t hf c5
    refine lv_iconst (pc := 24) (v := (-1 : Int32)) hx hb dX5_post_24 (by decide) ?_
    cases hf
    exact x_iret (pc := 25) X V hr dX5_post_25
  · replace hf := if_f hf c5
    refine lv_aload_n (pc := 15) hx hb dX5_post_15 rfl (lv_at hl 0 rfl) ?_
    replace hf := bs hf; obtain ⟨a6, ha6, hf⟩ := hf
    refine x_get (pc := 16) X V okX5 ht1 3 (by decide) q1524 (v := va_rf (R x0 3)) rfl dX5_post_16 ?_
    refine x_topr ha6 ?_
    refine lv_iconst (pc := 19) (v := (ii 1)) hx hb dX5_post_19 (by decide) ?_
    replace hf := rA_s hf; obtain ⟨j7, hjj7, htj7, hij7, hf⟩ := hf
    refine x_iald (pc := 20) X V htj7 hij7 hjj7 dX5_post_20 ?_
    refine lv_if_ne (pc := 21) (tgt := 26) hx hb dX5_post_21 (by decide) (fun c8 => ?_) (fun c8 => ?_)
    · replace hf := if_f hf c8
      refine lv_aload_n (pc := 26) hx hb dX5_post_26 rfl (lv_at hl 0 rfl) ?_
      replace hf := bs hf; obtain ⟨I9, hk_10, hf⟩ := hf
      refine x_callV0 (pc := 27) (As := []) (rest := []) X V (mX5_layFar l D dA s0 hk_10) okX5 ht1 q2034 q2036 qs97 q129 q2037 ⟨rfl, hsX5_layFar⟩ ⟨Nat.le_of_ble_eq_true rfl, Nat.le_of_ble_eq_true rfl⟩ rfl hl.1 rfl (Nat.le_of_ble_eq_true rfl) dX5_post_27 ⟨Nat.zero_le _, Nat.zero_le _⟩ (fun H locs V => W.eq (g2 := F0 m 30 ls []) rfl ?_)
      refine lv_ldcw (pc := 30) (v := (ii 100000000)) hx hb X.1.2.2.2.1 (X.1.2.2.2.2 _ q2038) dX5_post_30 ?_
      refine lv_istore_n (pc := 33) (lv' := [(2, .int (ii 100000000)), (0, .ref x0), (1, .int x1)]) hx hb dX5_post_33 rfl hl (by decide) rfl (fun ls hl => ?_)
      refine lv_iconst (pc := 34) (v := (-1 : Int32)) hx hb dX5_post_34 (by decide) ?_
      refine lv_istore_n (pc := 35) (lv' := [(3, .int (-1 : Int32)), (2, .int (ii 100000000)), (0, .ref x0), (1, .int x1)]) hx hb dX5_post_35 rfl hl (by decide) rfl (fun ls hl => ?_)
      refine lv_iconst (pc := 36) (v := (ii 0)) hx hb dX5_post_36 (by decide) ?_
      refine lv_istore (pc := 37) (lv' := [(4, .int (ii 0)), (3, .int (-1 : Int32)), (2, .int (ii 100000000)), (0, .ref x0), (1, .int x1)]) hx hb dX5_post_37 hl (by decide) rfl (fun ls hl => ?_)
      exact wX5_post_b39 X hr nf hf V (lv_sub hl [3, 4, 2, 1, 0] rfl)
    · replace hf := if_t hf c8
      refine lv_iconst (pc := 24) (v := (-1 : Int32)) hx hb dX5_post_24 (by decide) ?_
      cases hf
      exact x_iret (pc := 25) X V hr dX5_post_25
theorem mX5_post {nf : Nat} (l : Launch) (D : va_G) (dA : Nat → ClassId) (s0 : Nat) {T : xT} {N : xT} {Z : Nat} {I : xI} {L : xL} {R : xR} {x0 : Nat} {x1 : Int32} {ro : Int32} {Io : xI} {Lo : xL} (hf : fX5_post nf T N I L R x0 x1 = some (ro, Io, Lo)) : XMet l D dA s0 yX5_post (ws_ yX5_post cX5_post 8 ((some .int))) (10) (236) [.ref x0, .int x1] T N Z I L R (some (.int ro)) T N Z Io Lo R 0 0 :=
  x_start (own := RX5) rfl (by decide) (Nat.le_of_ble_eq_true rfl) (lv := [(0, .ref x0), (1, .int x1)]) rfl (fun p e s m below meth c ls X hr hini V hl => wX5_post_e X hr hf V hl)
set_option maxHeartbeats 400000 in
set_option maxRecDepth 100000 in
theorem wX5_ones_b4 {nf : Nat} {p : Program} {l : Launch} {e : Env} {s : State} {m : MethodId} {args : Array Value} {below : List Frame} {meth : Method} {c : Code} {D : va_G} {dA : Nat → ClassId} {s0 : Nat} {T : xT} {N : xT} {Z : Nat} {I : xI} {L : xL} {R : xR}  {ro : Int32} (X : Cx D dA s0 p m c cX5_ones 3 s args RX5 meth) (hr : meth.sig.returnType = (some .int))   (k : Nat) : ∀ {x0 : Int32} {x1 : Int32} {x2 : Int32} {H : Heap} {locs : List Loc} {ls : Array Slot} , fX5_ones_b4 nf k x0 x1 x2 = some ro → Iv D dA s0 s T N Z I L R H locs → lv_has ls 3 [(0, .int x0), (1, .int x1), (2, .int x2)] → W p l e { frames := 0, cells := 0, slots := 0, locals := 0 } s m args below meth c H locs 0 0 (MQ below (xQ D dA s0 (some (.int ro)) T N Z I L R) args s 0 0 (fun q => s0 ≤ q)) (F0 m 4 ls []) := by
  have hx := X.1.1
  have hb := X.1.2.1
  induction k with
  | zero =>
    intro x0 x1 x2 H locs ls hf V hl
    exact absurd (show none = some _ from hf) (fun q => nomatch q)
  | succ k ih =>
    intro x0 x1 x2 H locs ls hf V hl
    rw [fX5_ones_b4] at hf
    refine lv_iload_n (pc := 4) hx hb dX5_ones_4 rfl (lv_at hl 2 rfl) ?_
    refine lv_bipush (pc := 5) (v := (ii 8)) hx hb dX5_ones_5 (by decide) ?_
    refine lv_icmp_ge (pc := 7) (tgt := 24) hx hb dX5_ones_7 (by decide) (fun c1 => ?_) (fun c1 => ?_)
    · replace hf := if_t hf c1
      refine lv_iload_n (pc := 24) hx hb dX5_ones_24 rfl (lv_at hl 1 rfl) ?_
      cases hf
      exact x_iret (pc := 25) X V hr dX5_ones_25
    · replace hf := if_f hf c1
      refine lv_iload_n (pc := 10) hx hb dX5_ones_10 rfl (lv_at hl 1 rfl) ?_
      refine lv_iload_n (pc := 11) hx hb dX5_ones_11 rfl (lv_at hl 0 rfl) ?_
      refine lv_iload_n (pc := 12) hx hb dX5_ones_12 rfl (lv_at hl 2 rfl) ?_
      refine lv_ishr (pc := 13) hx hb dX5_ones_13 ?_
      refine lv_iconst (pc := 14) (v := (ii 1)) hx hb dX5_ones_14 (by decide) ?_
      refine lv_iand (pc := 15) hx hb dX5_ones_15 ?_
      refine lv_iadd (pc := 16) hx hb dX5_ones_16 ?_
      replace hf := nm_s hf; obtain ⟨u2, hu2, hf⟩ := hf
      refine x_topi hu2 ?_
      refine lv_istore_n (pc := 17) (lv' := [(1, .int u2), (0, .int x0), (2, .int x2)]) hx hb dX5_ones_17 rfl hl (by decide) rfl (fun ls hl => ?_)
      replace hf := nm_s hf; obtain ⟨u3, hu3, hf⟩ := hf
      refine lv_iinc (pc := 18) (v := u3) (lv' := [(2, .int u3), (1, .int u2), (0, .int x0)]) hx hb dX5_ones_18 hl (k := 2) rfl (by rw [hu3]; rfl) (by decide) rfl (fun ls hl => ?_)
      refine lv_goto (pc := 21) (tgt := 4) hx hb dX5_ones_21 (by decide) ?_
      exact ih hf V (lv_sub hl [2, 1, 0] rfl)
set_option maxHeartbeats 400000 in
set_option maxRecDepth 100000 in
theorem wX5_ones_e {nf : Nat} {p : Program} {l : Launch} {e : Env} {s : State} {m : MethodId} {args : Array Value} {below : List Frame} {meth : Method} {c : Code} {D : va_G} {dA : Nat → ClassId} {s0 : Nat} {T : xT} {N : xT} {Z : Nat} {I : xI} {L : xL} {R : xR} {H : Heap} {locs : List Loc} {ls : Array Slot} {x0 : Int32} {ro : Int32} (X : Cx D dA s0 p m c cX5_ones 3 s args RX5 meth) (hr : meth.sig.returnType = (some .int)) (hf : fX5_ones nf x0 = some ro) (V : Iv D dA s0 s T N Z I L R H locs) (hl : lv_has ls 3 [(0, .int x0)]) : W p l e { frames := 0, cells := 0, slots := 0, locals := 0 } s m args below meth c H locs 0 0 (MQ below (xQ D dA s0 (some (.int ro)) T N Z I L R) args s 0 0 (fun q => s0 ≤ q)) (F0 m 0 ls []) := by
  have hx := X.1.1
  have hb := X.1.2.1
  unfold fX5_ones at hf
  refine lv_iconst (pc := 0) (v := (ii 0)) hx hb dX5_ones_0 (by decide) ?_
  refine lv_istore_n (pc := 1) (lv' := [(1, .int (ii 0)), (0, .int x0)]) hx hb dX5_ones_1 rfl hl (by decide) rfl (fun ls hl => ?_)
  refine lv_iconst (pc := 2) (v := (ii 0)) hx hb dX5_ones_2 (by decide) ?_
  refine lv_istore_n (pc := 3) (lv' := [(2, .int (ii 0)), (1, .int (ii 0)), (0, .int x0)]) hx hb dX5_ones_3 rfl hl (by decide) rfl (fun ls hl => ?_)
  exact wX5_ones_b4 X hr nf hf V (lv_sub hl [2, 1, 0] rfl)
theorem mX5_ones {nf : Nat} (l : Launch) (D : va_G) (dA : Nat → ClassId) (s0 : Nat) {T : xT} {N : xT} {Z : Nat} {I : xI} {L : xL} {R : xR} {x0 : Int32} {ro : Int32} (hf : fX5_ones nf x0 = some ro) : XMet l D dA s0 yX5_ones (ws_ yX5_ones cX5_ones 3 ((some .int))) (0) (0) [.int x0] T N Z I L R (some (.int ro)) T N Z I L R 0 0 :=
  x_start (own := RX5) rfl (by decide) (Nat.le_of_ble_eq_true rfl) (lv := [(0, .int x0)]) rfl (fun p e s m below meth c ls X hr hini V hl => wX5_ones_e X hr hf V hl)
set_option maxHeartbeats 400000 in
set_option maxRecDepth 100000 in
theorem wX5_laneEnds_b4 {nf : Nat} {p : Program} {l : Launch} {e : Env} {s : State} {m : MethodId} {args : Array Value} {below : List Frame} {meth : Method} {c : Code} {D : va_G} {dA : Nat → ClassId} {s0 : Nat} {T : xT} {N : xT} {Z : Nat} {I : xI} {L : xL} {R : xR}  {ro : Int32} (X : Cx D dA s0 p m c cX5_laneEnds 4 s args RX5 meth) (hr : meth.sig.returnType = (some .int))   (k : Nat) : ∀ {x0 : Nat} {x1 : Int32} {x2 : Int32} {x3 : Int32} {H : Heap} {locs : List Loc} {ls : Array Slot} , fX5_laneEnds_b4 nf T N I R k x0 x1 x2 x3 = some ro → Iv D dA s0 s T N Z I L R H locs → lv_has ls 4 [(0, .ref x0), (1, .int x1), (2, .int x2), (3, .int x3)] → W p l e { frames := 1, cells := 0, slots := 0, locals := 22 } s m args below meth c H locs 0 0 (MQ below (xQ D dA s0 (some (.int ro)) T N Z I L R) args s 0 0 (fun q => s0 ≤ q)) (F0 m 4 ls []) := by
  have hx := X.1.1
  have hb := X.1.2.1
  induction k with
  | zero =>
    intro x0 x1 x2 x3 H locs ls hf V hl
    exact absurd (show none = some _ from hf) (fun q => nomatch q)
  | succ k ih =>
    intro x0 x1 x2 x3 H locs ls hf V hl
    rw [fX5_laneEnds_b4] at hf
    refine lv_iload_n (pc := 4) hx hb dX5_laneEnds_4 rfl (lv_at hl 3 rfl) ?_
    refine lv_aload_n (pc := 5) hx hb dX5_laneEnds_5 rfl (lv_at hl 0 rfl) ?_
    replace hf := tg_s hf; obtain ⟨ht1, hf⟩ := hf
    replace hf := bs hf; obtain ⟨a2, ha2, hf⟩ := hf
    refine x_get (pc := 6) X V okX5 ht1 3 (by decide) q1524 (v := va_rf (R x0 3)) rfl dX5_laneEnds_6 ?_
    refine x_topr ha2 ?_
    refine lv_iconst (pc := 9) (v := (ii 0)) hx hb dX5_laneEnds_9 (by decide) ?_
    replace hf := rA_s hf; obtain ⟨j3, hjj3, htj3, hij3, hf⟩ := hf
    refine x_iald (pc := 10) X V htj3 hij3 hjj3 dX5_laneEnds_10 ?_
    refine lv_icmp_ge (pc := 11) (tgt := 37) hx hb dX5_laneEnds_11 (by decide) (fun c4 => ?_) (fun c4 => ?_)
    · replace hf := if_t hf c4
      refine lv_iload_n (pc := 37) hx hb dX5_laneEnds_37 rfl (lv_at hl 2 rfl) ?_
      cases hf
      exact x_iret (pc := 38) X V hr dX5_laneEnds_38
    · replace hf := if_f hf c4
      refine lv_iload_n (pc := 14) hx hb dX5_laneEnds_14 rfl (lv_at hl 2 rfl) ?_
      refine lv_aload_n (pc := 15) hx hb dX5_laneEnds_15 rfl (lv_at hl 0 rfl) ?_
      refine lv_iload_n (pc := 16) hx hb dX5_laneEnds_16 rfl (lv_at hl 3 rfl) ?_
      refine lv_iload_n (pc := 17) hx hb dX5_laneEnds_17 rfl (lv_at hl 1 rfl) ?_
      replace hf := bs hf; obtain ⟨r5, hk_6, hf⟩ := hf
      refine x_callV0 (pc := 18) (As := [.int x3, .int x1]) (rest := [.int x2]) X V (mX5_ends l D dA s0 hk_6) okX5 ht1 q1792 q1794 qs58 q129 q1795 ⟨rfl, hsX5_ends⟩ ⟨Nat.le_of_ble_eq_true rfl, Nat.le_of_ble_eq_true rfl⟩ rfl hl.1 rfl (Nat.le_of_ble_eq_true rfl) dX5_laneEnds_18 ⟨Nat.zero_le _, Nat.zero_le _⟩ (fun H locs V => W.eq (g2 := F0 m 21 ls [.int r5, .int x2]) rfl ?_)
      refine lv_if_eq (pc := 21) (tgt := 28) hx hb dX5_laneEnds_21 (by decide) (fun c7 => ?_) (fun c7 => ?_)
      · replace hf := if_t hf c7
        refine lv_iconst (pc := 28) (v := (ii 0)) hx hb dX5_laneEnds_28 (by decide) ?_
        refine lv_iadd (pc := 29) hx hb dX5_laneEnds_29 ?_
        replace hf := nm_s hf; obtain ⟨u8, hu8, hf⟩ := hf
        refine x_topi hu8 ?_
        refine lv_istore_n (pc := 30) (lv' := [(2, .int u8), (0, .ref x0), (1, .int x1), (3, .int x3)]) hx hb dX5_laneEnds_30 rfl hl (by decide) rfl (fun ls hl => ?_)
        replace hf := nm_s hf; obtain ⟨u9, hu9, hf⟩ := hf
        refine lv_iinc (pc := 31) (v := u9) (lv' := [(3, .int u9), (2, .int u8), (0, .ref x0), (1, .int x1)]) hx hb dX5_laneEnds_31 hl (k := 3) rfl (by rw [hu9]; rfl) (by decide) rfl (fun ls hl => ?_)
        refine lv_goto (pc := 34) (tgt := 4) hx hb dX5_laneEnds_34 (by decide) ?_
        exact ih hf V (lv_sub hl [2, 3, 1, 0] rfl)
      · replace hf := if_f hf c7
        refine lv_iconst (pc := 24) (v := (ii 1)) hx hb dX5_laneEnds_24 (by decide) ?_
        refine lv_goto (pc := 25) (tgt := 29) hx hb dX5_laneEnds_25 (by decide) ?_
        refine lv_iadd (pc := 29) hx hb dX5_laneEnds_29 ?_
        replace hf := nm_s hf; obtain ⟨u10, hu10, hf⟩ := hf
        refine x_topi hu10 ?_
        refine lv_istore_n (pc := 30) (lv' := [(2, .int u10), (0, .ref x0), (1, .int x1), (3, .int x3)]) hx hb dX5_laneEnds_30 rfl hl (by decide) rfl (fun ls hl => ?_)
        replace hf := nm_s hf; obtain ⟨u11, hu11, hf⟩ := hf
        refine lv_iinc (pc := 31) (v := u11) (lv' := [(3, .int u11), (2, .int u10), (0, .ref x0), (1, .int x1)]) hx hb dX5_laneEnds_31 hl (k := 3) rfl (by rw [hu11]; rfl) (by decide) rfl (fun ls hl => ?_)
        refine lv_goto (pc := 34) (tgt := 4) hx hb dX5_laneEnds_34 (by decide) ?_
        exact ih hf V (lv_sub hl [2, 3, 1, 0] rfl)
set_option maxHeartbeats 400000 in
set_option maxRecDepth 100000 in
theorem wX5_laneEnds_e {nf : Nat} {p : Program} {l : Launch} {e : Env} {s : State} {m : MethodId} {args : Array Value} {below : List Frame} {meth : Method} {c : Code} {D : va_G} {dA : Nat → ClassId} {s0 : Nat} {T : xT} {N : xT} {Z : Nat} {I : xI} {L : xL} {R : xR} {H : Heap} {locs : List Loc} {ls : Array Slot} {x0 : Nat} {x1 : Int32} {ro : Int32} (X : Cx D dA s0 p m c cX5_laneEnds 4 s args RX5 meth) (hr : meth.sig.returnType = (some .int)) (hf : fX5_laneEnds nf T N I R x0 x1 = some ro) (V : Iv D dA s0 s T N Z I L R H locs) (hl : lv_has ls 4 [(0, .ref x0), (1, .int x1)]) : W p l e { frames := 1, cells := 0, slots := 0, locals := 22 } s m args below meth c H locs 0 0 (MQ below (xQ D dA s0 (some (.int ro)) T N Z I L R) args s 0 0 (fun q => s0 ≤ q)) (F0 m 0 ls []) := by
  have hx := X.1.1
  have hb := X.1.2.1
  unfold fX5_laneEnds at hf
  refine lv_iconst (pc := 0) (v := (ii 0)) hx hb dX5_laneEnds_0 (by decide) ?_
  refine lv_istore_n (pc := 1) (lv' := [(2, .int (ii 0)), (0, .ref x0), (1, .int x1)]) hx hb dX5_laneEnds_1 rfl hl (by decide) rfl (fun ls hl => ?_)
  refine lv_iconst (pc := 2) (v := (ii 0)) hx hb dX5_laneEnds_2 (by decide) ?_
  refine lv_istore_n (pc := 3) (lv' := [(3, .int (ii 0)), (2, .int (ii 0)), (0, .ref x0), (1, .int x1)]) hx hb dX5_laneEnds_3 rfl hl (by decide) rfl (fun ls hl => ?_)
  exact wX5_laneEnds_b4 X hr nf hf V (lv_sub hl [2, 3, 1, 0] rfl)
theorem mX5_laneEnds {nf : Nat} (l : Launch) (D : va_G) (dA : Nat → ClassId) (s0 : Nat) {T : xT} {N : xT} {Z : Nat} {I : xI} {L : xL} {R : xR} {x0 : Nat} {x1 : Int32} {ro : Int32} (hf : fX5_laneEnds nf T N I R x0 x1 = some ro) : XMet l D dA s0 yX5_laneEnds (ws_ yX5_laneEnds cX5_laneEnds 4 ((some .int))) (1) (22) [.ref x0, .int x1] T N Z I L R (some (.int ro)) T N Z I L R 0 0 :=
  x_start (own := RX5) rfl (by decide) (Nat.le_of_ble_eq_true rfl) (lv := [(0, .ref x0), (1, .int x1)]) rfl (fun p e s m below meth c ls X hr hini V hl => wX5_laneEnds_e X hr hf V hl)
set_option maxHeartbeats 400000 in
set_option maxRecDepth 100000 in
theorem wX5_is_e {p : Program} {l : Launch} {e : Env} {s : State} {m : MethodId} {args : Array Value} {below : List Frame} {meth : Method} {c : Code} {D : va_G} {dA : Nat → ClassId} {s0 : Nat} {T : xT} {N : xT} {Z : Nat} {I : xI} {L : xL} {R : xR} {H : Heap} {locs : List Loc} {ls : Array Slot} {x0 : Int32} {x1 : Int32} {ro : Int32} (X : Cx D dA s0 p m c cX5_is 2 s args RX5 meth) (hr : meth.sig.returnType = (some .boolean)) (hf : fX5_is x0 x1 = some ro) (V : Iv D dA s0 s T N Z I L R H locs) (hl : lv_has ls 2 [(0, .int x0), (1, .int x1)]) : W p l e { frames := 0, cells := 0, slots := 0, locals := 0 } s m args below meth c H locs 0 0 (MQ below (xQ D dA s0 (some (.int ro)) T N Z I L R) args s 0 0 (fun q => s0 ≤ q)) (F0 m 0 ls []) := by
  have hx := X.1.1
  have hb := X.1.2.1
  unfold fX5_is at hf
  refine lv_iload_n (pc := 0) hx hb dX5_is_0 rfl (lv_at hl 0 rfl) ?_
  refine lv_iload_n (pc := 1) hx hb dX5_is_1 rfl (lv_at hl 1 rfl) ?_
  refine lv_ishr (pc := 2) hx hb dX5_is_2 ?_
  refine lv_iconst (pc := 3) (v := (ii 1)) hx hb dX5_is_3 (by decide) ?_
  refine lv_iand (pc := 4) hx hb dX5_is_4 ?_
  refine lv_iconst (pc := 5) (v := (ii 1)) hx hb dX5_is_5 (by decide) ?_
  refine lv_icmp_ne (pc := 6) (tgt := 13) hx hb dX5_is_6 (by decide) (fun c1 => ?_) (fun c1 => ?_)
  · replace hf := if_f hf c1
    refine lv_iconst (pc := 13) (v := (ii 0)) hx hb dX5_is_13 (by decide) ?_
    cases hf
    exact x_zret (pc := 14) X V hr (by decide) dX5_is_14
  · replace hf := if_t hf c1
    refine lv_iconst (pc := 9) (v := (ii 1)) hx hb dX5_is_9 (by decide) ?_
    refine lv_goto (pc := 10) (tgt := 14) hx hb dX5_is_10 (by decide) ?_
    cases hf
    exact x_zret (pc := 14) X V hr (by decide) dX5_is_14
theorem mX5_is (l : Launch) (D : va_G) (dA : Nat → ClassId) (s0 : Nat) {T : xT} {N : xT} {Z : Nat} {I : xI} {L : xL} {R : xR} {x0 : Int32} {x1 : Int32} {ro : Int32} (hf : fX5_is x0 x1 = some ro) : XMet l D dA s0 yX5_is (ws_ yX5_is cX5_is 2 ((some .boolean))) (0) (0) [.int x0, .int x1] T N Z I L R (some (.int ro)) T N Z I L R 0 0 :=
  x_start (own := RX5) rfl (by decide) (Nat.le_of_ble_eq_true rfl) (lv := [(0, .int x0), (1, .int x1)]) rfl (fun p e s m below meth c ls X hr hini V hl => wX5_is_e X hr hf V hl)
set_option maxHeartbeats 400000 in
set_option maxRecDepth 100000 in
theorem wX5_allNear_b31 {nf : Nat} {p : Program} {l : Launch} {e : Env} {s : State} {m : MethodId} {args : Array Value} {below : List Frame} {meth : Method} {c : Code} {D : va_G} {dA : Nat → ClassId} {s0 : Nat} {T : xT} {N : xT} {Z : Nat} {I : xI} {L : xL} {R : xR} {kk5 : Nat → Int32 → Int32 → Int32 → Int32 → Option (Int32)} {ro : Int32} (X : Cx D dA s0 p m c cX5_allNear 7 s args RX5 meth) (hr : meth.sig.returnType = (some .boolean)) (hk5 : ∀ {x0 : Nat} {x1 : Int32} {x2 : Int32} {x3 : Int32} {x4 : Int32} {H : Heap} {locs : List Loc} {ls : Array Slot} , kk5 x0 x1 x2 x3 x4 = some ro → Iv D dA s0 s T N Z I L R H locs → lv_has ls 7 [(0, .ref x0), (1, .int x1), (2, .int x2), (3, .int x3), (4, .int x4)] → W p l e { frames := 2, cells := 0, slots := 0, locals := 45 } s m args below meth c H locs 0 0 (MQ below (xQ D dA s0 (some (.int ro)) T N Z I L R) args s 0 0 (fun q => s0 ≤ q)) (F0 m 5 ls []))  (k : Nat) : ∀ {x0 : Nat} {x1 : Int32} {x2 : Int32} {x3 : Int32} {x4 : Int32} {x5 : Int32} {x6 : Int32} {H : Heap} {locs : List Loc} {ls : Array Slot} , fX5_allNear_b31 nf kk5 T N I R k x0 x1 x2 x3 x4 x5 x6 = some ro → Iv D dA s0 s T N Z I L R H locs → lv_has ls 7 [(0, .ref x0), (1, .int x1), (2, .int x2), (3, .int x3), (4, .int x4), (5, .int x5), (6, .int x6)] → W p l e { frames := 2, cells := 0, slots := 0, locals := 45 } s m args below meth c H locs 0 0 (MQ below (xQ D dA s0 (some (.int ro)) T N Z I L R) args s 0 0 (fun q => s0 ≤ q)) (F0 m 31 ls []) := by
  have hx := X.1.1
  have hb := X.1.2.1
  induction k with
  | zero =>
    intro x0 x1 x2 x3 x4 x5 x6 H locs ls hf V hl
    exact absurd (show none = some _ from hf) (fun q => nomatch q)
  | succ k ih =>
    intro x0 x1 x2 x3 x4 x5 x6 H locs ls hf V hl
    rw [fX5_allNear_b31] at hf
    refine lv_iload (pc := 31) hx hb dX5_allNear_31 (lv_at hl 6 rfl) ?_
    refine lv_bipush (pc := 33) (v := (ii 8)) hx hb dX5_allNear_33 (by decide) ?_
    refine lv_icmp_ge (pc := 35) (tgt := 77) hx hb dX5_allNear_35 (by decide) (fun c1 => ?_) (fun c1 => ?_)
    · replace hf := if_t hf c1
      refine lv_iload_n (pc := 77) hx hb dX5_allNear_77 rfl (lv_at hl 3 rfl) ?_
      refine lv_if_eq (pc := 78) (tgt := 90) hx hb dX5_allNear_78 (by decide) (fun c2 => ?_) (fun c2 => ?_)
      · replace hf := if_t hf c2
        refine lv_iconst (pc := 90) (v := (ii 0)) hx hb dX5_allNear_90 (by decide) ?_
        refine lv_istore_n (pc := 91) (lv' := [(3, .int (ii 0)), (0, .ref x0), (1, .int x1), (2, .int x2), (4, .int x4), (5, .int x5), (6, .int x6)]) hx hb dX5_allNear_91 rfl hl (by decide) rfl (fun ls hl => ?_)
        replace hf := nm_s hf; obtain ⟨u3, hu3, hf⟩ := hf
        refine lv_iinc (pc := 92) (v := u3) (lv' := [(4, .int u3), (3, .int (ii 0)), (0, .ref x0), (1, .int x1), (2, .int x2), (5, .int x5), (6, .int x6)]) hx hb dX5_allNear_92 hl (k := 4) rfl (by rw [hu3]; rfl) (by decide) rfl (fun ls hl => ?_)
        refine lv_goto (pc := 95) (tgt := 5) hx hb dX5_allNear_95 (by decide) ?_
        exact hk5 hf V (lv_sub hl [2, 3, 4, 1, 0] rfl)
      · replace hf := if_f hf c2
        refine lv_iload (pc := 81) hx hb dX5_allNear_81 (lv_at hl 5 rfl) ?_
        refine lv_if_eq (pc := 83) (tgt := 90) hx hb dX5_allNear_83 (by decide) (fun c4 => ?_) (fun c4 => ?_)
        · replace hf := if_t hf c4
          refine lv_iconst (pc := 90) (v := (ii 0)) hx hb dX5_allNear_90 (by decide) ?_
          refine lv_istore_n (pc := 91) (lv' := [(3, .int (ii 0)), (0, .ref x0), (1, .int x1), (2, .int x2), (4, .int x4), (5, .int x5), (6, .int x6)]) hx hb dX5_allNear_91 rfl hl (by decide) rfl (fun ls hl => ?_)
          replace hf := nm_s hf; obtain ⟨u5, hu5, hf⟩ := hf
          refine lv_iinc (pc := 92) (v := u5) (lv' := [(4, .int u5), (3, .int (ii 0)), (0, .ref x0), (1, .int x1), (2, .int x2), (5, .int x5), (6, .int x6)]) hx hb dX5_allNear_92 hl (k := 4) rfl (by rw [hu5]; rfl) (by decide) rfl (fun ls hl => ?_)
          refine lv_goto (pc := 95) (tgt := 5) hx hb dX5_allNear_95 (by decide) ?_
          exact hk5 hf V (lv_sub hl [2, 3, 4, 1, 0] rfl)
        · replace hf := if_f hf c4
          refine lv_iconst (pc := 86) (v := (ii 1)) hx hb dX5_allNear_86 (by decide) ?_
          refine lv_goto (pc := 87) (tgt := 91) hx hb dX5_allNear_87 (by decide) ?_
          refine lv_istore_n (pc := 91) (lv' := [(3, .int (ii 1)), (0, .ref x0), (1, .int x1), (2, .int x2), (4, .int x4), (5, .int x5), (6, .int x6)]) hx hb dX5_allNear_91 rfl hl (by decide) rfl (fun ls hl => ?_)
          replace hf := nm_s hf; obtain ⟨u6, hu6, hf⟩ := hf
          refine lv_iinc (pc := 92) (v := u6) (lv' := [(4, .int u6), (3, .int (ii 1)), (0, .ref x0), (1, .int x1), (2, .int x2), (5, .int x5), (6, .int x6)]) hx hb dX5_allNear_92 hl (k := 4) rfl (by rw [hu6]; rfl) (by decide) rfl (fun ls hl => ?_)
          refine lv_goto (pc := 95) (tgt := 5) hx hb dX5_allNear_95 (by decide) ?_
          exact hk5 hf V (lv_sub hl [2, 3, 4, 1, 0] rfl)
    · replace hf := if_f hf c1
      refine lv_iload (pc := 38) hx hb dX5_allNear_38 (lv_at hl 5 rfl) ?_
      refine lv_if_ne (pc := 40) (tgt := 64) hx hb dX5_allNear_40 (by decide) (fun c7 => ?_) (fun c7 => ?_)
      · replace hf := if_f hf c7
        refine lv_iconst (pc := 64) (v := (ii 1)) hx hb dX5_allNear_64 (by decide) ?_
        refine lv_goto (pc := 65) (tgt := 69) hx hb dX5_allNear_65 (by decide) ?_
        refine lv_istore (pc := 69) (lv' := [(5, .int (ii 1)), (0, .ref x0), (1, .int x1), (2, .int x2), (3, .int x3), (4, .int x4), (6, .int x6)]) hx hb dX5_allNear_69 hl (by decide) rfl (fun ls hl => ?_)
        replace hf := nm_s hf; obtain ⟨u8, hu8, hf⟩ := hf
        refine lv_iinc (pc := 71) (v := u8) (lv' := [(6, .int u8), (5, .int (ii 1)), (0, .ref x0), (1, .int x1), (2, .int x2), (3, .int x3), (4, .int x4)]) hx hb dX5_allNear_71 hl (k := 6) rfl (by rw [hu8]; rfl) (by decide) rfl (fun ls hl => ?_)
        refine lv_goto (pc := 74) (tgt := 31) hx hb dX5_allNear_74 (by decide) ?_
        exact ih hf V (lv_sub hl [2, 3, 4, 5, 6, 1, 0] rfl)
      · replace hf := if_t hf c7
        refine lv_iload_n (pc := 43) hx hb dX5_allNear_43 rfl (lv_at hl 1 rfl) ?_
        refine lv_iload (pc := 44) hx hb dX5_allNear_44 (lv_at hl 6 rfl) ?_
        replace hf := bs hf; obtain ⟨r9, hk_10, hf⟩ := hf
        refine x_callS0 (pc := 46) (As := [.int x1, .int x6]) (rest := []) X V (mX5_is l D dA s0 hk_10) q2071 q2072 q129 q2073 hsX5_is ⟨Nat.le_of_ble_eq_true rfl, Nat.le_of_ble_eq_true rfl⟩ rfl hl.1 rfl (Nat.le_of_ble_eq_true rfl) dX5_allNear_46 ⟨Nat.zero_le _, Nat.zero_le _⟩ (fun H locs V => W.eq (g2 := F0 m 49 ls [.int r9]) rfl ?_)
        refine lv_if_eq (pc := 49) (tgt := 68) hx hb dX5_allNear_49 (by decide) (fun c11 => ?_) (fun c11 => ?_)
        · replace hf := if_t hf c11
          refine lv_iconst (pc := 68) (v := (ii 0)) hx hb dX5_allNear_68 (by decide) ?_
          refine lv_istore (pc := 69) (lv' := [(5, .int (ii 0)), (0, .ref x0), (1, .int x1), (2, .int x2), (3, .int x3), (4, .int x4), (6, .int x6)]) hx hb dX5_allNear_69 hl (by decide) rfl (fun ls hl => ?_)
          replace hf := nm_s hf; obtain ⟨u12, hu12, hf⟩ := hf
          refine lv_iinc (pc := 71) (v := u12) (lv' := [(6, .int u12), (5, .int (ii 0)), (0, .ref x0), (1, .int x1), (2, .int x2), (3, .int x3), (4, .int x4)]) hx hb dX5_allNear_71 hl (k := 6) rfl (by rw [hu12]; rfl) (by decide) rfl (fun ls hl => ?_)
          refine lv_goto (pc := 74) (tgt := 31) hx hb dX5_allNear_74 (by decide) ?_
          exact ih hf V (lv_sub hl [2, 3, 4, 5, 6, 1, 0] rfl)
        · replace hf := if_f hf c11
          refine lv_aload_n (pc := 52) hx hb dX5_allNear_52 rfl (lv_at hl 0 rfl) ?_
          refine lv_iload (pc := 53) hx hb dX5_allNear_53 (lv_at hl 6 rfl) ?_
          refine lv_iload (pc := 55) hx hb dX5_allNear_55 (lv_at hl 4 rfl) ?_
          replace hf := tg_s hf; obtain ⟨ht15, hf⟩ := hf
          replace hf := bs hf; obtain ⟨r13, hk_14, hf⟩ := hf
          refine x_callV0 (pc := 57) (As := [.int x6, .int x4]) (rest := []) X V (mX5_farOf l D dA s0 hk_14) okX5 ht15 q2039 q2041 qs98 q129 q2042 ⟨rfl, hsX5_farOf⟩ ⟨Nat.le_of_ble_eq_true rfl, Nat.le_of_ble_eq_true rfl⟩ rfl hl.1 rfl (Nat.le_of_ble_eq_true rfl) dX5_allNear_57 ⟨Nat.zero_le _, Nat.zero_le _⟩ (fun H locs V => W.eq (g2 := F0 m 60 ls [.int r13]) rfl ?_)
          refine lv_iload_n (pc := 60) hx hb dX5_allNear_60 rfl (lv_at hl 2 rfl) ?_
          refine lv_icmp_gt (pc := 61) (tgt := 68) hx hb dX5_allNear_61 (by decide) (fun c16 => ?_) (fun c16 => ?_)
          · replace hf := if_t hf c16
            refine lv_iconst (pc := 68) (v := (ii 0)) hx hb dX5_allNear_68 (by decide) ?_
            refine lv_istore (pc := 69) (lv' := [(5, .int (ii 0)), (0, .ref x0), (1, .int x1), (2, .int x2), (3, .int x3), (4, .int x4), (6, .int x6)]) hx hb dX5_allNear_69 hl (by decide) rfl (fun ls hl => ?_)
            replace hf := nm_s hf; obtain ⟨u17, hu17, hf⟩ := hf
            refine lv_iinc (pc := 71) (v := u17) (lv' := [(6, .int u17), (5, .int (ii 0)), (0, .ref x0), (1, .int x1), (2, .int x2), (3, .int x3), (4, .int x4)]) hx hb dX5_allNear_71 hl (k := 6) rfl (by rw [hu17]; rfl) (by decide) rfl (fun ls hl => ?_)
            refine lv_goto (pc := 74) (tgt := 31) hx hb dX5_allNear_74 (by decide) ?_
            exact ih hf V (lv_sub hl [2, 3, 4, 5, 6, 1, 0] rfl)
          · replace hf := if_f hf c16
            refine lv_iconst (pc := 64) (v := (ii 1)) hx hb dX5_allNear_64 (by decide) ?_
            refine lv_goto (pc := 65) (tgt := 69) hx hb dX5_allNear_65 (by decide) ?_
            refine lv_istore (pc := 69) (lv' := [(5, .int (ii 1)), (0, .ref x0), (1, .int x1), (2, .int x2), (3, .int x3), (4, .int x4), (6, .int x6)]) hx hb dX5_allNear_69 hl (by decide) rfl (fun ls hl => ?_)
            replace hf := nm_s hf; obtain ⟨u18, hu18, hf⟩ := hf
            refine lv_iinc (pc := 71) (v := u18) (lv' := [(6, .int u18), (5, .int (ii 1)), (0, .ref x0), (1, .int x1), (2, .int x2), (3, .int x3), (4, .int x4)]) hx hb dX5_allNear_71 hl (k := 6) rfl (by rw [hu18]; rfl) (by decide) rfl (fun ls hl => ?_)
            refine lv_goto (pc := 74) (tgt := 31) hx hb dX5_allNear_74 (by decide) ?_
            exact ih hf V (lv_sub hl [2, 3, 4, 5, 6, 1, 0] rfl)
set_option maxHeartbeats 400000 in
set_option maxRecDepth 100000 in
theorem wX5_allNear_b5 {nf : Nat} {p : Program} {l : Launch} {e : Env} {s : State} {m : MethodId} {args : Array Value} {below : List Frame} {meth : Method} {c : Code} {D : va_G} {dA : Nat → ClassId} {s0 : Nat} {T : xT} {N : xT} {Z : Nat} {I : xI} {L : xL} {R : xR}  {ro : Int32} (X : Cx D dA s0 p m c cX5_allNear 7 s args RX5 meth) (hr : meth.sig.returnType = (some .boolean))   (k : Nat) : ∀ {x0 : Nat} {x1 : Int32} {x2 : Int32} {x3 : Int32} {x4 : Int32} {H : Heap} {locs : List Loc} {ls : Array Slot} , fX5_allNear_b5 nf T N I R k x0 x1 x2 x3 x4 = some ro → Iv D dA s0 s T N Z I L R H locs → lv_has ls 7 [(0, .ref x0), (1, .int x1), (2, .int x2), (3, .int x3), (4, .int x4)] → W p l e { frames := 2, cells := 0, slots := 0, locals := 45 } s m args below meth c H locs 0 0 (MQ below (xQ D dA s0 (some (.int ro)) T N Z I L R) args s 0 0 (fun q => s0 ≤ q)) (F0 m 5 ls []) := by
  have hx := X.1.1
  have hb := X.1.2.1
  induction k with
  | zero =>
    intro x0 x1 x2 x3 x4 H locs ls hf V hl
    exact absurd (show none = some _ from hf) (fun q => nomatch q)
  | succ k ih =>
    intro x0 x1 x2 x3 x4 H locs ls hf V hl
    rw [fX5_allNear_b5] at hf
    refine lv_iload (pc := 5) hx hb dX5_allNear_5 (lv_at hl 4 rfl) ?_
    refine lv_bipush (pc := 7) (v := (ii 8)) hx hb dX5_allNear_7 (by decide) ?_
    refine lv_icmp_ge (pc := 9) (tgt := 98) hx hb dX5_allNear_9 (by decide) (fun c1 => ?_) (fun c1 => ?_)
    · replace hf := if_t hf c1
      refine lv_iload_n (pc := 98) hx hb dX5_allNear_98 rfl (lv_at hl 3 rfl) ?_
      replace hf := chk_s hf; obtain ⟨hz2, hf⟩ := hf
      cases hf
      exact x_zret (pc := 99) X V hr hz2 dX5_allNear_99
    · replace hf := if_f hf c1
      refine lv_aload_n (pc := 12) hx hb dX5_allNear_12 rfl (lv_at hl 0 rfl) ?_
      refine lv_iload (pc := 13) hx hb dX5_allNear_13 (lv_at hl 4 rfl) ?_
      replace hf := tg_s hf; obtain ⟨ht5, hf⟩ := hf
      replace hf := bs hf; obtain ⟨r3, hk_4, hf⟩ := hf
      refine x_callV0 (pc := 15) (As := [.int x4]) (rest := []) X V (mX5_laneEnds l D dA s0 hk_4) okX5 ht5 q2067 q2069 qs101 q129 q2070 ⟨rfl, hsX5_laneEnds⟩ ⟨Nat.le_of_ble_eq_true rfl, Nat.le_of_ble_eq_true rfl⟩ rfl hl.1 rfl (Nat.le_of_ble_eq_true rfl) dX5_allNear_15 ⟨Nat.zero_le _, Nat.zero_le _⟩ (fun H locs V => W.eq (g2 := F0 m 18 ls [.int r3]) rfl ?_)
      refine lv_if_ne (pc := 18) (tgt := 25) hx hb dX5_allNear_18 (by decide) (fun c6 => ?_) (fun c6 => ?_)
      · replace hf := if_f hf c6
        refine lv_iconst (pc := 25) (v := (ii 0)) hx hb dX5_allNear_25 (by decide) ?_
        refine lv_istore (pc := 26) (lv' := [(5, .int (ii 0)), (0, .ref x0), (1, .int x1), (2, .int x2), (3, .int x3), (4, .int x4)]) hx hb dX5_allNear_26 hl (by decide) rfl (fun ls hl => ?_)
        refine lv_iconst (pc := 28) (v := (ii 0)) hx hb dX5_allNear_28 (by decide) ?_
        refine lv_istore (pc := 29) (lv' := [(6, .int (ii 0)), (5, .int (ii 0)), (0, .ref x0), (1, .int x1), (2, .int x2), (3, .int x3), (4, .int x4)]) hx hb dX5_allNear_29 hl (by decide) rfl (fun ls hl => ?_)
        exact wX5_allNear_b31 X hr ih nf hf V (lv_sub hl [2, 3, 4, 5, 6, 1, 0] rfl)
      · replace hf := if_t hf c6
        refine lv_iconst (pc := 21) (v := (ii 1)) hx hb dX5_allNear_21 (by decide) ?_
        refine lv_goto (pc := 22) (tgt := 26) hx hb dX5_allNear_22 (by decide) ?_
        refine lv_istore (pc := 26) (lv' := [(5, .int (ii 1)), (0, .ref x0), (1, .int x1), (2, .int x2), (3, .int x3), (4, .int x4)]) hx hb dX5_allNear_26 hl (by decide) rfl (fun ls hl => ?_)
        refine lv_iconst (pc := 28) (v := (ii 0)) hx hb dX5_allNear_28 (by decide) ?_
        refine lv_istore (pc := 29) (lv' := [(6, .int (ii 0)), (5, .int (ii 1)), (0, .ref x0), (1, .int x1), (2, .int x2), (3, .int x3), (4, .int x4)]) hx hb dX5_allNear_29 hl (by decide) rfl (fun ls hl => ?_)
        exact wX5_allNear_b31 X hr ih nf hf V (lv_sub hl [2, 3, 4, 5, 6, 1, 0] rfl)
set_option maxHeartbeats 400000 in
set_option maxRecDepth 100000 in
theorem wX5_allNear_e {nf : Nat} {p : Program} {l : Launch} {e : Env} {s : State} {m : MethodId} {args : Array Value} {below : List Frame} {meth : Method} {c : Code} {D : va_G} {dA : Nat → ClassId} {s0 : Nat} {T : xT} {N : xT} {Z : Nat} {I : xI} {L : xL} {R : xR} {H : Heap} {locs : List Loc} {ls : Array Slot} {x0 : Nat} {x1 : Int32} {x2 : Int32} {ro : Int32} (X : Cx D dA s0 p m c cX5_allNear 7 s args RX5 meth) (hr : meth.sig.returnType = (some .boolean)) (hf : fX5_allNear nf T N I R x0 x1 x2 = some ro) (V : Iv D dA s0 s T N Z I L R H locs) (hl : lv_has ls 7 [(0, .ref x0), (1, .int x1), (2, .int x2)]) : W p l e { frames := 2, cells := 0, slots := 0, locals := 45 } s m args below meth c H locs 0 0 (MQ below (xQ D dA s0 (some (.int ro)) T N Z I L R) args s 0 0 (fun q => s0 ≤ q)) (F0 m 0 ls []) := by
  have hx := X.1.1
  have hb := X.1.2.1
  unfold fX5_allNear at hf
  refine lv_iconst (pc := 0) (v := (ii 1)) hx hb dX5_allNear_0 (by decide) ?_
  refine lv_istore_n (pc := 1) (lv' := [(3, .int (ii 1)), (0, .ref x0), (1, .int x1), (2, .int x2)]) hx hb dX5_allNear_1 rfl hl (by decide) rfl (fun ls hl => ?_)
  refine lv_iconst (pc := 2) (v := (ii 0)) hx hb dX5_allNear_2 (by decide) ?_
  refine lv_istore (pc := 3) (lv' := [(4, .int (ii 0)), (3, .int (ii 1)), (0, .ref x0), (1, .int x1), (2, .int x2)]) hx hb dX5_allNear_3 hl (by decide) rfl (fun ls hl => ?_)
  exact wX5_allNear_b5 X hr nf hf V (lv_sub hl [2, 3, 4, 1, 0] rfl)
theorem mX5_allNear {nf : Nat} (l : Launch) (D : va_G) (dA : Nat → ClassId) (s0 : Nat) {T : xT} {N : xT} {Z : Nat} {I : xI} {L : xL} {R : xR} {x0 : Nat} {x1 : Int32} {x2 : Int32} {ro : Int32} (hf : fX5_allNear nf T N I R x0 x1 x2 = some ro) : XMet l D dA s0 yX5_allNear (ws_ yX5_allNear cX5_allNear 7 ((some .boolean))) (2) (45) [.ref x0, .int x1, .int x2] T N Z I L R (some (.int ro)) T N Z I L R 0 0 :=
  x_start (own := RX5) rfl (by decide) (Nat.le_of_ble_eq_true rfl) (lv := [(0, .ref x0), (1, .int x1), (2, .int x2)]) rfl (fun p e s m below meth c ls X hr hini V hl => wX5_allNear_e X hr hf V hl)
set_option maxHeartbeats 400000 in
set_option maxRecDepth 100000 in
theorem wX5_posts_b43 {nf : Nat} {p : Program} {l : Launch} {e : Env} {s : State} {m : MethodId} {args : Array Value} {below : List Frame} {meth : Method} {c : Code} {D : va_G} {dA : Nat → ClassId} {s0 : Nat} {T : xT} {N : xT} {Z : Nat} {L : xL} {R : xR}  {ro : Int32} {Io : xI} (X : Cx D dA s0 p m c cX5_posts 6 s args RX5 meth) (hr : meth.sig.returnType = (some .int))   (k : Nat) : ∀ {I : xI} {x0 : Nat} {x1 : Int32} {x2 : Int32} {x3 : Int32} {x4 : Int32} {x5 : Int32} {H : Heap} {locs : List Loc} {ls : Array Slot} , fX5_posts_b43 nf T N R k I x0 x1 x2 x3 x4 x5 = some (ro, Io) → Iv D dA s0 s T N Z I L R H locs → lv_has ls 6 [(0, .ref x0), (1, .int x1), (2, .int x2), (3, .int x3), (4, .int x4), (5, .int x5)] → W p l e { frames := 3, cells := 0, slots := 0, locals := 71 } s m args below meth c H locs 0 0 (MQ below (xQ D dA s0 (some (.int ro)) T N Z Io L R) args s 0 0 (fun q => s0 ≤ q)) (F0 m 43 ls []) := by
  have hx := X.1.1
  have hb := X.1.2.1
  induction k with
  | zero =>
    intro I x0 x1 x2 x3 x4 x5 H locs ls hf V hl
    exact absurd (show none = some _ from hf) (fun q => nomatch q)
  | succ k ih =>
    intro I x0 x1 x2 x3 x4 x5 H locs ls hf V hl
    rw [fX5_posts_b43] at hf
    refine lv_iload (pc := 43) hx hb dX5_posts_43 (lv_at hl 5 rfl) ?_
    refine lv_sipush (pc := 45) (v := (ii 256)) hx hb dX5_posts_45 (by decide) ?_
    refine lv_icmp_ge (pc := 48) (tgt := 86) hx hb dX5_posts_48 (by decide) (fun c1 => ?_) (fun c1 => ?_)
    · replace hf := if_t hf c1
      refine lv_iload_n (pc := 86) hx hb dX5_posts_86 rfl (lv_at hl 2 rfl) ?_
      refine lv_if_ne (pc := 87) (tgt := 94) hx hb dX5_posts_87 (by decide) (fun c2 => ?_) (fun c2 => ?_)
      · replace hf := if_f hf c2
        refine lv_iload (pc := 94) hx hb dX5_posts_94 (lv_at hl 4 rfl) ?_
        cases hf
        exact x_iret (pc := 96) X V hr dX5_posts_96
      · replace hf := if_t hf c2
        refine lv_iload_n (pc := 90) hx hb dX5_posts_90 rfl (lv_at hl 3 rfl) ?_
        refine lv_goto (pc := 91) (tgt := 96) hx hb dX5_posts_91 (by decide) ?_
        cases hf
        exact x_iret (pc := 96) X V hr dX5_posts_96
    · replace hf := if_f hf c1
      refine lv_iload (pc := 51) hx hb dX5_posts_51 (lv_at hl 5 rfl) ?_
      replace hf := bs hf; obtain ⟨r3, hk_4, hf⟩ := hf
      refine x_callS0 (pc := 53) (As := [.int x5]) (rest := []) X V (mX5_ones l D dA s0 hk_4) q2060 q2061 q129 q2062 hsX5_ones ⟨Nat.le_of_ble_eq_true rfl, Nat.le_of_ble_eq_true rfl⟩ rfl hl.1 rfl (Nat.le_of_ble_eq_true rfl) dX5_posts_53 ⟨Nat.zero_le _, Nat.zero_le _⟩ (fun H locs V => W.eq (g2 := F0 m 56 ls [.int r3]) rfl ?_)
      refine lv_iload_n (pc := 56) hx hb dX5_posts_56 rfl (lv_at hl 3 rfl) ?_
      refine lv_icmp_ge (pc := 57) (tgt := 80) hx hb dX5_posts_57 (by decide) (fun c5 => ?_) (fun c5 => ?_)
      · replace hf := if_t hf c5
        replace hf := nm_s hf; obtain ⟨u6, hu6, hf⟩ := hf
        refine lv_iinc (pc := 80) (v := u6) (lv' := [(5, .int u6), (0, .ref x0), (1, .int x1), (2, .int x2), (3, .int x3), (4, .int x4)]) hx hb dX5_posts_80 hl (k := 5) rfl (by rw [hu6]; rfl) (by decide) rfl (fun ls hl => ?_)
        refine lv_goto (pc := 83) (tgt := 43) hx hb dX5_posts_83 (by decide) ?_
        exact ih hf V (lv_sub hl [1, 2, 3, 4, 5, 0] rfl)
      · replace hf := if_f hf c5
        refine lv_aload_n (pc := 60) hx hb dX5_posts_60 rfl (lv_at hl 0 rfl) ?_
        refine lv_iload (pc := 61) hx hb dX5_posts_61 (lv_at hl 5 rfl) ?_
        refine lv_iload_n (pc := 63) hx hb dX5_posts_63 rfl (lv_at hl 1 rfl) ?_
        replace hf := tg_s hf; obtain ⟨ht9, hf⟩ := hf
        replace hf := bs hf; obtain ⟨r7, hk_8, hf⟩ := hf
        refine x_callV0 (pc := 64) (As := [.int x5, .int x1]) (rest := []) X V (mX5_allNear l D dA s0 hk_8) okX5 ht9 q2063 q2065 qs100 q129 q2066 ⟨rfl, hsX5_allNear⟩ ⟨Nat.le_of_ble_eq_true rfl, Nat.le_of_ble_eq_true rfl⟩ rfl hl.1 rfl (Nat.le_of_ble_eq_true rfl) dX5_posts_64 ⟨Nat.zero_le _, Nat.zero_le _⟩ (fun H locs V => W.eq (g2 := F0 m 67 ls [.int r7]) rfl ?_)
        refine lv_if_eq (pc := 67) (tgt := 80) hx hb dX5_posts_67 (by decide) (fun c10 => ?_) (fun c10 => ?_)
        · replace hf := if_t hf c10
          replace hf := nm_s hf; obtain ⟨u11, hu11, hf⟩ := hf
          refine lv_iinc (pc := 80) (v := u11) (lv' := [(5, .int u11), (0, .ref x0), (1, .int x1), (2, .int x2), (3, .int x3), (4, .int x4)]) hx hb dX5_posts_80 hl (k := 5) rfl (by rw [hu11]; rfl) (by decide) rfl (fun ls hl => ?_)
          refine lv_goto (pc := 83) (tgt := 43) hx hb dX5_posts_83 (by decide) ?_
          exact ih hf V (lv_sub hl [1, 2, 3, 4, 5, 0] rfl)
        · replace hf := if_f hf c10
          refine lv_iload (pc := 70) hx hb dX5_posts_70 (lv_at hl 5 rfl) ?_
          replace hf := bs hf; obtain ⟨r12, hk_13, hf⟩ := hf
          refine x_callS0 (pc := 72) (As := [.int x5]) (rest := []) X V (mX5_ones l D dA s0 hk_13) q2060 q2061 q129 q2062 hsX5_ones ⟨Nat.le_of_ble_eq_true rfl, Nat.le_of_ble_eq_true rfl⟩ rfl hl.1 rfl (Nat.le_of_ble_eq_true rfl) dX5_posts_72 ⟨Nat.zero_le _, Nat.zero_le _⟩ (fun H locs V => W.eq (g2 := F0 m 75 ls [.int r12]) rfl ?_)
          refine lv_istore_n (pc := 75) (lv' := [(3, .int r12), (0, .ref x0), (1, .int x1), (2, .int x2), (4, .int x4), (5, .int x5)]) hx hb dX5_posts_75 rfl hl (by decide) rfl (fun ls hl => ?_)
          refine lv_iload (pc := 76) hx hb dX5_posts_76 (lv_at hl 5 rfl) ?_
          refine lv_istore (pc := 78) (lv' := [(4, .int x5), (3, .int r12), (0, .ref x0), (1, .int x1), (2, .int x2), (5, .int x5)]) hx hb dX5_posts_78 hl (by decide) rfl (fun ls hl => ?_)
          replace hf := nm_s hf; obtain ⟨u14, hu14, hf⟩ := hf
          refine lv_iinc (pc := 80) (v := u14) (lv' := [(5, .int u14), (4, .int x5), (3, .int r12), (0, .ref x0), (1, .int x1), (2, .int x2)]) hx hb dX5_posts_80 hl (k := 5) rfl (by rw [hu14]; rfl) (by decide) rfl (fun ls hl => ?_)
          refine lv_goto (pc := 83) (tgt := 43) hx hb dX5_posts_83 (by decide) ?_
          exact ih hf V (lv_sub hl [3, 4, 5, 2, 1, 0] rfl)
set_option maxHeartbeats 400000 in
set_option maxRecDepth 100000 in
theorem wX5_posts_e {nf : Nat} {p : Program} {l : Launch} {e : Env} {s : State} {m : MethodId} {args : Array Value} {below : List Frame} {meth : Method} {c : Code} {D : va_G} {dA : Nat → ClassId} {s0 : Nat} {T : xT} {N : xT} {Z : Nat} {I : xI} {L : xL} {R : xR} {H : Heap} {locs : List Loc} {ls : Array Slot} {x0 : Nat} {x1 : Int32} {x2 : Int32} {ro : Int32} {Io : xI} (X : Cx D dA s0 p m c cX5_posts 6 s args RX5 meth) (hr : meth.sig.returnType = (some .int)) (hf : fX5_posts nf T N I R x0 x1 x2 = some (ro, Io)) (V : Iv D dA s0 s T N Z I L R H locs) (hl : lv_has ls 6 [(0, .ref x0), (1, .int x1), (2, .int x2)]) : W p l e { frames := 3, cells := 0, slots := 0, locals := 71 } s m args below meth c H locs 0 0 (MQ below (xQ D dA s0 (some (.int ro)) T N Z Io L R) args s 0 0 (fun q => s0 ≤ q)) (F0 m 0 ls []) := by
  have hx := X.1.1
  have hb := X.1.2.1
  unfold fX5_posts at hf
  refine lv_aload_n (pc := 0) hx hb dX5_posts_0 rfl (lv_at hl 0 rfl) ?_
  refine lv_iconst (pc := 1) (v := (ii 0)) hx hb dX5_posts_1 (by decide) ?_
  replace hf := tg_s hf; obtain ⟨ht1, hf⟩ := hf
  replace hf := nm_s hf; obtain ⟨I2, hI2, hf⟩ := hf
  refine x_puti (pc := 2) X V okX5 (by decide) ht1 0 (by decide) q1521 (Or.inl rfl) hI2 (fun _ _ _ => rfl) rfl rfl dX5_posts_2 (fun H locs V => ?_)
  refine lv_iload_n (pc := 5) hx hb dX5_posts_5 rfl (lv_at hl 1 rfl) ?_
  refine lv_i2l (pc := 6) hx hb dX5_posts_6 rfl ?_
  refine lv_lconst (pc := 7) (v := (jj 0)) hx hb dX5_posts_7 (by decide) ?_
  refine lv_ldc2 (pc := 8) (v := (jj 50)) hx hb X.1.2.2.2.1 (X.1.2.2.2.2 _ q2059) dX5_posts_8 ?_
  replace hf := bs hf; obtain ⟨r3, hk_4, hf⟩ := hf
  refine x_callS0 (pc := 11) (As := [.long ((x1).toInt64), .long (jj 0), .long (jj 50)]) (rest := []) X V (mX5_in l D dA s0 hk_4) q1713 q1714 q129 q1715 hsX5_in ⟨Nat.le_of_ble_eq_true rfl, Nat.le_of_ble_eq_true rfl⟩ rfl hl.1 rfl (Nat.le_of_ble_eq_true rfl) dX5_posts_11 ⟨Nat.zero_le _, Nat.zero_le _⟩ (fun H locs V => W.eq (g2 := F0 m 14 ls [.int r3]) rfl ?_)
  refine lv_if_eq (pc := 14) (tgt := 27) hx hb dX5_posts_14 (by decide) (fun c5 => ?_) (fun c5 => ?_)
  · replace hf := if_t hf c5
    refine lv_iconst (pc := 27) (v := (-1 : Int32)) hx hb dX5_posts_27 (by decide) ?_
    cases hf
    exact x_iret (pc := 28) X V hr dX5_posts_28
  · replace hf := if_f hf c5
    refine lv_iload_n (pc := 17) hx hb dX5_posts_17 rfl (lv_at hl 2 rfl) ?_
    refine lv_i2l (pc := 18) hx hb dX5_posts_18 rfl ?_
    refine lv_lconst (pc := 19) (v := (jj 0)) hx hb dX5_posts_19 (by decide) ?_
    refine lv_lconst (pc := 20) (v := (jj 1)) hx hb dX5_posts_20 (by decide) ?_
    replace hf := bs hf; obtain ⟨r6, hk_7, hf⟩ := hf
    refine x_callS0 (pc := 21) (As := [.long ((x2).toInt64), .long (jj 0), .long (jj 1)]) (rest := []) X V (mX5_in l D dA s0 hk_7) q1713 q1714 q129 q1715 hsX5_in ⟨Nat.le_of_ble_eq_true rfl, Nat.le_of_ble_eq_true rfl⟩ rfl hl.1 rfl (Nat.le_of_ble_eq_true rfl) dX5_posts_21 ⟨Nat.zero_le _, Nat.zero_le _⟩ (fun H locs V => W.eq (g2 := F0 m 24 ls [.int r6]) rfl ?_)
    refine lv_if_ne (pc := 24) (tgt := 29) hx hb dX5_posts_24 (by decide) (fun c8 => ?_) (fun c8 => ?_)
    · replace hf := if_f hf c8
      refine lv_aload_n (pc := 29) hx hb dX5_posts_29 rfl (lv_at hl 0 rfl) ?_
      replace hf := bs hf; obtain ⟨I9, hk_10, hf⟩ := hf
      refine x_callV0 (pc := 30) (As := []) (rest := []) X V (mX5_layFar l D dA s0 hk_10) okX5 ht1 q2034 q2036 qs97 q129 q2037 ⟨rfl, hsX5_layFar⟩ ⟨Nat.le_of_ble_eq_true rfl, Nat.le_of_ble_eq_true rfl⟩ rfl hl.1 rfl (Nat.le_of_ble_eq_true rfl) dX5_posts_30 ⟨Nat.zero_le _, Nat.zero_le _⟩ (fun H locs V => W.eq (g2 := F0 m 33 ls []) rfl ?_)
      refine lv_ldcw (pc := 33) (v := (ii 100000000)) hx hb X.1.2.2.2.1 (X.1.2.2.2.2 _ q2038) dX5_posts_33 ?_
      refine lv_istore_n (pc := 36) (lv' := [(3, .int (ii 100000000)), (0, .ref x0), (1, .int x1), (2, .int x2)]) hx hb dX5_posts_36 rfl hl (by decide) rfl (fun ls hl => ?_)
      refine lv_iconst (pc := 37) (v := (ii 0)) hx hb dX5_posts_37 (by decide) ?_
      refine lv_istore (pc := 38) (lv' := [(4, .int (ii 0)), (3, .int (ii 100000000)), (0, .ref x0), (1, .int x1), (2, .int x2)]) hx hb dX5_posts_38 hl (by decide) rfl (fun ls hl => ?_)
      refine lv_iconst (pc := 40) (v := (ii 0)) hx hb dX5_posts_40 (by decide) ?_
      refine lv_istore (pc := 41) (lv' := [(5, .int (ii 0)), (4, .int (ii 0)), (3, .int (ii 100000000)), (0, .ref x0), (1, .int x1), (2, .int x2)]) hx hb dX5_posts_41 hl (by decide) rfl (fun ls hl => ?_)
      exact wX5_posts_b43 X hr nf hf V (lv_sub hl [3, 4, 5, 2, 1, 0] rfl)
    · replace hf := if_t hf c8
      refine lv_iconst (pc := 27) (v := (-1 : Int32)) hx hb dX5_posts_27 (by decide) ?_
      cases hf
      exact x_iret (pc := 28) X V hr dX5_posts_28
theorem mX5_posts {nf : Nat} (l : Launch) (D : va_G) (dA : Nat → ClassId) (s0 : Nat) {T : xT} {N : xT} {Z : Nat} {I : xI} {L : xL} {R : xR} {x0 : Nat} {x1 : Int32} {x2 : Int32} {ro : Int32} {Io : xI} (hf : fX5_posts nf T N I R x0 x1 x2 = some (ro, Io)) : XMet l D dA s0 yX5_posts (ws_ yX5_posts cX5_posts 6 ((some .int))) (3) (71) [.ref x0, .int x1, .int x2] T N Z I L R (some (.int ro)) T N Z Io L R 0 0 :=
  x_start (own := RX5) rfl (by decide) (Nat.le_of_ble_eq_true rfl) (lv := [(0, .ref x0), (1, .int x1), (2, .int x2)]) rfl (fun p e s m below meth c ls X hr hini V hl => wX5_posts_e X hr hf V hl)
set_option maxHeartbeats 400000 in
set_option maxRecDepth 100000 in
theorem wX5_again_b68 {nf : Nat} {p : Program} {l : Launch} {e : Env} {s : State} {m : MethodId} {args : Array Value} {below : List Frame} {meth : Method} {c : Code} {D : va_G} {dA : Nat → ClassId} {s0 : Nat} {T : xT} {N : xT} {Z : Nat} {I : xI} {L : xL} {R : xR} {H : Heap} {locs : List Loc} {ls : Array Slot}  {x0 : Nat} {x3 : Int32} {ro : Int32} {Io : xI} {Lo : xL} (X : Cx D dA s0 p m c cX5_again 4 s args RX5 meth) (hr : meth.sig.returnType = (some .int))   (hf : fX5_again_b68 nf T N I L R x0 x3 = some (ro, Io, Lo)) (V : Iv D dA s0 s T N Z I L R H locs) (hl : lv_has ls 4 [(0, .ref x0), (3, .int x3)]) : W p l e { frames := 9, cells := 0, slots := 0, locals := 213 } s m args below meth c H locs 0 0 (MQ below (xQ D dA s0 (some (.int ro)) T N Z Io Lo R) args s 0 0 (fun q => s0 ≤ q)) (F0 m 68 ls []) := by
  have hx := X.1.1
  have hb := X.1.2.1
  unfold fX5_again_b68 at hf
  refine lv_aload_n (pc := 68) hx hb dX5_again_68 rfl (lv_at hl 0 rfl) ?_
  refine lv_bipush (pc := 69) (v := (ii 16)) hx hb dX5_again_69 (by decide) ?_
  replace hf := tg_s hf; obtain ⟨ht3, hf⟩ := hf
  replace hf := bs hf; obtain ⟨I1, hk_2, hf⟩ := hf
  refine x_callV0 (pc := 71) (As := [.int (ii 16)]) (rest := []) X V (mX5_putBack l D dA s0 hk_2) okX5 ht3 q1705 q1707 qs46 q129 q1708 ⟨rfl, hsX5_putBack⟩ ⟨Nat.le_of_ble_eq_true rfl, Nat.le_of_ble_eq_true rfl⟩ rfl hl.1 rfl (Nat.le_of_ble_eq_true rfl) dX5_again_71 ⟨Nat.zero_le _, Nat.zero_le _⟩ (fun H locs V => W.eq (g2 := F0 m 74 ls []) rfl ?_)
  refine lv_iload_n (pc := 74) hx hb dX5_again_74 rfl (lv_at hl 1 rfl) ?_
  refine lv_bipush (pc := 75) (v := (ii 60)) hx hb dX5_again_75 (by decide) ?_
  refine lv_icmp_le (pc := 77) (tgt := 84) hx hb dX5_again_77 (by decide) (fun c4 => ?_) (fun c4 => ?_)
  · replace hf := if_t hf c4
    refine lv_iload_n (pc := 84) hx hb dX5_again_84 rfl (lv_at hl 1 rfl) ?_
    cases hf
    exact x_iret (pc := 85) X V hr dX5_again_85
  · replace hf := if_f hf c4
    refine lv_iconst (pc := 80) (v := (-1 : Int32)) hx hb dX5_again_80 (by decide) ?_
    refine lv_goto (pc := 81) (tgt := 85) hx hb dX5_again_81 (by decide) ?_
    cases hf
    exact x_iret (pc := 85) X V hr dX5_again_85
set_option maxHeartbeats 400000 in
set_option maxRecDepth 100000 in
theorem wX5_again_b38 {nf : Nat} {p : Program} {l : Launch} {e : Env} {s : State} {m : MethodId} {args : Array Value} {below : List Frame} {meth : Method} {c : Code} {D : va_G} {dA : Nat → ClassId} {s0 : Nat} {T : xT} {N : xT} {Z : Nat} {R : xR}  {ro : Int32} {Io : xI} {Lo : xL} (X : Cx D dA s0 p m c cX5_again 4 s args RX5 meth) (hr : meth.sig.returnType = (some .int))   (k : Nat) : ∀ {I : xI} {L : xL} {x0 : Nat} {x1 : Int32} {x2 : Int32} {x3 : Int32} {H : Heap} {locs : List Loc} {ls : Array Slot} , fX5_again_b38 nf T N R k I L x0 x1 x2 x3 = some (ro, Io, Lo) → Iv D dA s0 s T N Z I L R H locs → lv_has ls 4 [(0, .ref x0), (1, .int x1), (2, .int x2), (3, .int x3)] → W p l e { frames := 9, cells := 0, slots := 0, locals := 213 } s m args below meth c H locs 0 0 (MQ below (xQ D dA s0 (some (.int ro)) T N Z Io Lo R) args s 0 0 (fun q => s0 ≤ q)) (F0 m 38 ls []) := by
  have hx := X.1.1
  have hb := X.1.2.1
  induction k with
  | zero =>
    intro I L x0 x1 x2 x3 H locs ls hf V hl
    exact absurd (show none = some _ from hf) (fun q => nomatch q)
  | succ k ih =>
    intro I L x0 x1 x2 x3 H locs ls hf V hl
    rw [fX5_again_b38] at hf
    refine lv_iload_n (pc := 38) hx hb dX5_again_38 rfl (lv_at hl 3 rfl) ?_
    refine lv_bipush (pc := 39) (v := (ii 60)) hx hb dX5_again_39 (by decide) ?_
    refine lv_icmp_gt (pc := 41) (tgt := 68) hx hb dX5_again_41 (by decide) (fun c1 => ?_) (fun c1 => ?_)
    · replace hf := if_t hf c1
      exact wX5_again_b68 X hr hf V (lv_sub hl [0, 3] rfl)
    · replace hf := if_f hf c1
      refine lv_aload_n (pc := 44) hx hb dX5_again_44 rfl (lv_at hl 0 rfl) ?_
      replace hf := tg_s hf; obtain ⟨ht2, hf⟩ := hf
      replace hf := bs hf; obtain ⟨a3, ha3, hf⟩ := hf
      refine x_get (pc := 45) X V okX5 ht2 3 (by decide) q1524 (v := va_rf (R x0 3)) rfl dX5_again_45 ?_
      refine x_topr ha3 ?_
      refine lv_bipush (pc := 48) (v := (ii 18)) hx hb dX5_again_48 (by decide) ?_
      refine lv_iload_n (pc := 50) hx hb dX5_again_50 rfl (lv_at hl 1 rfl) ?_
      refine lv_iadd (pc := 51) hx hb dX5_again_51 ?_
      replace hf := rA_s hf; obtain ⟨j4, hjj4, htj4, hij4, hf⟩ := hf
      refine x_iald (pc := 52) X V htj4 hij4 hjj4 dX5_again_52 ?_
      refine lv_iload_n (pc := 53) hx hb dX5_again_53 rfl (lv_at hl 2 rfl) ?_
      refine lv_icmp_eq (pc := 54) (tgt := 68) hx hb dX5_again_54 (by decide) (fun c5 => ?_) (fun c5 => ?_)
      · replace hf := if_t hf c5
        exact wX5_again_b68 X hr hf V (lv_sub hl [0, 3] rfl)
      · replace hf := if_f hf c5
        refine lv_aload_n (pc := 57) hx hb dX5_again_57 rfl (lv_at hl 0 rfl) ?_
        replace hf := b3s hf; obtain ⟨r6, I7, L8, hk_9, hf⟩ := hf
        refine x_callV0 (pc := 58) (As := []) (rest := []) X V (mX5_passIt l D dA s0 hk_9) okX5 ht2 q2021 q2023 qs96 q129 q2024 ⟨rfl, hsX5_passIt⟩ ⟨Nat.le_of_ble_eq_true rfl, Nat.le_of_ble_eq_true rfl⟩ rfl hl.1 rfl (Nat.le_of_ble_eq_true rfl) dX5_again_58 ⟨Nat.zero_le _, Nat.zero_le _⟩ (fun H locs V => W.eq (g2 := F0 m 61 ls [.int r6]) rfl ?_)
        refine lv_pop (pc := 61) hx hb dX5_again_61 rfl ?_
        replace hf := nm_s hf; obtain ⟨u10, hu10, hf⟩ := hf
        refine lv_iinc (pc := 62) (v := u10) (lv' := [(3, .int u10), (0, .ref x0), (1, .int x1), (2, .int x2)]) hx hb dX5_again_62 hl (k := 3) rfl (by rw [hu10]; rfl) (by decide) rfl (fun ls hl => ?_)
        refine lv_goto (pc := 65) (tgt := 38) hx hb dX5_again_65 (by decide) ?_
        exact ih hf V (lv_sub hl [1, 2, 3, 0] rfl)
set_option maxHeartbeats 400000 in
set_option maxRecDepth 100000 in
theorem wX5_again_e {nf : Nat} {p : Program} {l : Launch} {e : Env} {s : State} {m : MethodId} {args : Array Value} {below : List Frame} {meth : Method} {c : Code} {D : va_G} {dA : Nat → ClassId} {s0 : Nat} {T : xT} {N : xT} {Z : Nat} {I : xI} {L : xL} {R : xR} {H : Heap} {locs : List Loc} {ls : Array Slot} {x0 : Nat} {x1 : Int32} {ro : Int32} {Io : xI} {Lo : xL} (X : Cx D dA s0 p m c cX5_again 4 s args RX5 meth) (hr : meth.sig.returnType = (some .int)) (hf : fX5_again nf T N I L R x0 x1 = some (ro, Io, Lo)) (V : Iv D dA s0 s T N Z I L R H locs) (hl : lv_has ls 4 [(0, .ref x0), (1, .int x1)]) : W p l e { frames := 9, cells := 0, slots := 0, locals := 213 } s m args below meth c H locs 0 0 (MQ below (xQ D dA s0 (some (.int ro)) T N Z Io Lo R) args s 0 0 (fun q => s0 ≤ q)) (F0 m 0 ls []) := by
  have hx := X.1.1
  have hb := X.1.2.1
  unfold fX5_again at hf
  refine lv_aload_n (pc := 0) hx hb dX5_again_0 rfl (lv_at hl 0 rfl) ?_
  refine lv_iconst (pc := 1) (v := (ii 0)) hx hb dX5_again_1 (by decide) ?_
  replace hf := tg_s hf; obtain ⟨ht1, hf⟩ := hf
  replace hf := nm_s hf; obtain ⟨I2, hI2, hf⟩ := hf
  refine x_puti (pc := 2) X V okX5 (by decide) ht1 0 (by decide) q1521 (Or.inl rfl) hI2 (fun _ _ _ => rfl) rfl rfl dX5_again_2 (fun H locs V => ?_)
  refine lv_aload_n (pc := 5) hx hb dX5_again_5 rfl (lv_at hl 0 rfl) ?_
  refine lv_iload_n (pc := 6) hx hb dX5_again_6 rfl (lv_at hl 1 rfl) ?_
  replace hf := bs hf; obtain ⟨r3, hk_4, hf⟩ := hf
  refine x_callV0 (pc := 7) (As := [.int x1]) (rest := []) X V (mX5_isChild l D dA s0 hk_4) okX5 ht1 q1754 q1756 qs50 q129 q1757 ⟨rfl, hsX5_isChild⟩ ⟨Nat.le_of_ble_eq_true rfl, Nat.le_of_ble_eq_true rfl⟩ rfl hl.1 rfl (Nat.le_of_ble_eq_true rfl) dX5_again_7 ⟨Nat.zero_le _, Nat.zero_le _⟩ (fun H locs V => W.eq (g2 := F0 m 10 ls [.int r3]) rfl ?_)
  refine lv_if_ne (pc := 10) (tgt := 15) hx hb dX5_again_10 (by decide) (fun c5 => ?_) (fun c5 => ?_)
  · replace hf := if_f hf c5
    refine lv_aload_n (pc := 15) hx hb dX5_again_15 rfl (lv_at hl 0 rfl) ?_
    replace hf := bs hf; obtain ⟨a6, ha6, hf⟩ := hf
    refine x_get (pc := 16) X V okX5 ht1 3 (by decide) q1524 (v := va_rf (R x0 3)) rfl dX5_again_16 ?_
    refine x_topr ha6 ?_
    refine lv_bipush (pc := 19) (v := (ii 18)) hx hb dX5_again_19 (by decide) ?_
    refine lv_iload_n (pc := 21) hx hb dX5_again_21 rfl (lv_at hl 1 rfl) ?_
    refine lv_iadd (pc := 22) hx hb dX5_again_22 ?_
    replace hf := rA_s hf; obtain ⟨j7, hjj7, htj7, hij7, hf⟩ := hf
    refine x_iald (pc := 23) X V htj7 hij7 hjj7 dX5_again_23 ?_
    replace hf := nm_s hf; obtain ⟨u8, hu8, hf⟩ := hf
    refine x_topi hu8 ?_
    refine lv_istore_n (pc := 24) (lv' := [(2, .int u8), (0, .ref x0), (1, .int x1)]) hx hb dX5_again_24 rfl hl (by decide) rfl (fun ls hl => ?_)
    refine lv_aload_n (pc := 25) hx hb dX5_again_25 rfl (lv_at hl 1 rfl) ?_
    refine lv_bipush (pc := 26) (v := (ii 16)) hx hb dX5_again_26 (by decide) ?_
    replace hf := bs hf; obtain ⟨I9, hk_10, hf⟩ := hf
    refine x_callV0 (pc := 28) (As := [.int (ii 16)]) (rest := []) X V (mX5_keepAll l D dA s0 hk_10) okX5 ht1 q1981 q1983 qs89 q129 q1984 ⟨rfl, hsX5_keepAll⟩ ⟨Nat.le_of_ble_eq_true rfl, Nat.le_of_ble_eq_true rfl⟩ rfl hl.1 rfl (Nat.le_of_ble_eq_true rfl) dX5_again_28 ⟨Nat.zero_le _, Nat.zero_le _⟩ (fun H locs V => W.eq (g2 := F0 m 31 ls []) rfl ?_)
    refine lv_aload_n (pc := 31) hx hb dX5_again_31 rfl (lv_at hl 1 rfl) ?_
    replace hf := b3s hf; obtain ⟨r11, I12, L13, hk_14, hf⟩ := hf
    refine x_callV0 (pc := 32) (As := []) (rest := []) X V (mX5_passIt l D dA s0 hk_14) okX5 ht1 q2021 q2023 qs96 q129 q2024 ⟨rfl, hsX5_passIt⟩ ⟨Nat.le_of_ble_eq_true rfl, Nat.le_of_ble_eq_true rfl⟩ rfl hl.1 rfl (Nat.le_of_ble_eq_true rfl) dX5_again_32 ⟨Nat.zero_le _, Nat.zero_le _⟩ (fun H locs V => W.eq (g2 := F0 m 35 ls [.int r11]) rfl ?_)
    refine lv_pop (pc := 35) hx hb dX5_again_35 rfl ?_
    refine lv_iconst (pc := 36) (v := (ii 1)) hx hb dX5_again_36 (by decide) ?_
    refine lv_istore_n (pc := 37) (lv' := [(3, .int (ii 1)), (2, .int u8), (0, .ref x0), (1, .int x1)]) hx hb dX5_again_37 rfl hl (by decide) rfl (fun ls hl => ?_)
    exact wX5_again_b38 X hr nf hf V (lv_sub hl [2, 3, 1, 0] rfl)
  · replace hf := if_t hf c5
    refine lv_iconst (pc := 13) (v := (-1 : Int32)) hx hb dX5_again_13 (by decide) ?_
    cases hf
    exact x_iret (pc := 14) X V hr dX5_again_14
theorem mX5_again {nf : Nat} (l : Launch) (D : va_G) (dA : Nat → ClassId) (s0 : Nat) {T : xT} {N : xT} {Z : Nat} {I : xI} {L : xL} {R : xR} {x0 : Nat} {x1 : Int32} {ro : Int32} {Io : xI} {Lo : xL} (hf : fX5_again nf T N I L R x0 x1 = some (ro, Io, Lo)) : XMet l D dA s0 yX5_again (ws_ yX5_again cX5_again 4 ((some .int))) (9) (213) [.ref x0, .int x1] T N Z I L R (some (.int ro)) T N Z Io Lo R 0 0 :=
  x_start (own := RX5) rfl (by decide) (Nat.le_of_ble_eq_true rfl) (lv := [(0, .ref x0), (1, .int x1)]) rfl (fun p e s m below meth c ls X hr hini V hl => wX5_again_e X hr hf V hl)
set_option maxHeartbeats 400000 in
set_option maxRecDepth 100000 in
theorem wX5_hear_e {p : Program} {l : Launch} {e : Env} {s : State} {m : MethodId} {args : Array Value} {below : List Frame} {meth : Method} {c : Code} {D : va_G} {dA : Nat → ClassId} {s0 : Nat} {T : xT} {N : xT} {Z : Nat} {I : xI} {L : xL} {R : xR} {H : Heap} {locs : List Loc} {ls : Array Slot} {x0 : Nat} {x1 : Int32} {ro : Int32} {Io : xI} (X : Cx D dA s0 p m c cX5_hear 3 s args RX5 meth) (hr : meth.sig.returnType = (some .int)) (hf : fX5_hear T N I R x0 x1 = some (ro, Io)) (V : Iv D dA s0 s T N Z I L R H locs) (hl : lv_has ls 3 [(0, .ref x0), (1, .int x1)]) : W p l e { frames := 1, cells := 0, slots := 0, locals := 25 } s m args below meth c H locs 0 0 (MQ below (xQ D dA s0 (some (.int ro)) T N Z Io L R) args s 0 0 (fun q => s0 ≤ q)) (F0 m 0 ls []) := by
  have hx := X.1.1
  have hb := X.1.2.1
  unfold fX5_hear at hf
  refine lv_aload_n (pc := 0) hx hb dX5_hear_0 rfl (lv_at hl 0 rfl) ?_
  refine lv_iconst (pc := 1) (v := (ii 0)) hx hb dX5_hear_1 (by decide) ?_
  replace hf := tg_s hf; obtain ⟨ht1, hf⟩ := hf
  replace hf := nm_s hf; obtain ⟨I2, hI2, hf⟩ := hf
  refine x_puti (pc := 2) X V okX5 (by decide) ht1 0 (by decide) q1521 (Or.inl rfl) hI2 (fun _ _ _ => rfl) rfl rfl dX5_hear_2 (fun H locs V => ?_)
  refine lv_iload_n (pc := 5) hx hb dX5_hear_5 rfl (lv_at hl 1 rfl) ?_
  refine lv_i2l (pc := 6) hx hb dX5_hear_6 rfl ?_
  refine lv_lconst (pc := 7) (v := (jj 0)) hx hb dX5_hear_7 (by decide) ?_
  refine lv_ldc2 (pc := 8) (v := (jj 19)) hx hb X.1.2.2.2.1 (X.1.2.2.2.2 _ q2082) dX5_hear_8 ?_
  replace hf := bs hf; obtain ⟨r3, hk_4, hf⟩ := hf
  refine x_callS0 (pc := 11) (As := [.long ((x1).toInt64), .long (jj 0), .long (jj 19)]) (rest := []) X V (mX5_in l D dA s0 hk_4) q1713 q1714 q129 q1715 hsX5_in ⟨Nat.le_of_ble_eq_true rfl, Nat.le_of_ble_eq_true rfl⟩ rfl hl.1 rfl (Nat.le_of_ble_eq_true rfl) dX5_hear_11 ⟨Nat.zero_le _, Nat.zero_le _⟩ (fun H locs V => W.eq (g2 := F0 m 14 ls [.int r3]) rfl ?_)
  refine lv_if_ne (pc := 14) (tgt := 23) hx hb dX5_hear_14 (by decide) (fun c5 => ?_) (fun c5 => ?_)
  · replace hf := if_f hf c5
    refine lv_aload_n (pc := 23) hx hb dX5_hear_23 rfl (lv_at hl 0 rfl) ?_
    replace hf := bs hf; obtain ⟨a6, ha6, hf⟩ := hf
    refine x_get (pc := 24) X V okX5 ht1 3 (by decide) q1524 (v := va_rf (R x0 3)) rfl dX5_hear_24 ?_
    refine x_topr ha6 ?_
    refine lv_iconst (pc := 27) (v := (ii 2)) hx hb dX5_hear_27 (by decide) ?_
    replace hf := rA_s hf; obtain ⟨j7, hjj7, htj7, hij7, hf⟩ := hf
    refine x_iald (pc := 28) X V htj7 hij7 hjj7 dX5_hear_28 ?_
    replace hf := nm_s hf; obtain ⟨u8, hu8, hf⟩ := hf
    refine x_topi hu8 ?_
    refine lv_istore_n (pc := 29) (lv' := [(2, .int u8), (0, .ref x0), (1, .int x1)]) hx hb dX5_hear_29 rfl hl (by decide) rfl (fun ls hl => ?_)
    refine lv_iload_n (pc := 30) hx hb dX5_hear_30 rfl (lv_at hl 0 rfl) ?_
    refine lv_bipush (pc := 31) (v := (ii 6)) hx hb dX5_hear_31 (by decide) ?_
    refine lv_icmp_ne (pc := 33) (tgt := 43) hx hb dX5_hear_33 (by decide) (fun c9 => ?_) (fun c9 => ?_)
    · replace hf := if_f hf c9
      refine lv_aload_n (pc := 43) hx hb dX5_hear_43 rfl (lv_at hl 1 rfl) ?_
      refine x_get (pc := 44) X V okX5 ht1 3 (by decide) q1524 (v := va_rf (R x0 3)) rfl dX5_hear_44 ?_
      refine x_topr ha6 ?_
      refine lv_bipush (pc := 47) (v := (ii 70)) hx hb dX5_hear_47 (by decide) ?_
      refine lv_iload_n (pc := 49) hx hb dX5_hear_49 rfl (lv_at hl 0 rfl) ?_
      refine lv_iadd (pc := 50) hx hb dX5_hear_50 ?_
      refine lv_iload_n (pc := 51) hx hb dX5_hear_51 rfl (lv_at hl 2 rfl) ?_
      replace hf := rA_s hf; obtain ⟨j10, hjj10, htj10, hij10, hf⟩ := hf
      replace hf := nm_s hf; obtain ⟨I11, hI11, hf⟩ := hf
      refine x_iast (pc := 52) X V htj10 hij10 hjj10 hI11 dX5_hear_52 (fun H locs V => ?_)
      refine lv_aload_n (pc := 53) hx hb dX5_hear_53 rfl (lv_at hl 1 rfl) ?_
      refine x_get (pc := 54) X V okX5 ht1 3 (by decide) q1524 (v := va_rf (R x0 3)) rfl dX5_hear_54 ?_
      refine x_topr ha6 ?_
      refine lv_iconst (pc := 57) (v := (ii 2)) hx hb dX5_hear_57 (by decide) ?_
      refine lv_dup2_11 (pc := 58) hx hb dX5_hear_58 rfl rfl ?_
      refine x_iald (pc := 59) X V htj7 hij7 hjj7 dX5_hear_59 ?_
      refine lv_iconst (pc := 60) (v := (ii 1)) hx hb dX5_hear_60 (by decide) ?_
      refine lv_iadd (pc := 61) hx hb dX5_hear_61 ?_
      replace hf := nm_s hf; obtain ⟨I12, hI12, hf⟩ := hf
      refine x_iast (pc := 62) X V htj7 hij7 hjj7 hI12 dX5_hear_62 (fun H locs V => ?_)
      refine lv_aload_n (pc := 63) hx hb dX5_hear_63 rfl (lv_at hl 1 rfl) ?_
      refine lv_iload_n (pc := 64) hx hb dX5_hear_64 rfl (lv_at hl 0 rfl) ?_
      refine lv_iconst (pc := 65) (v := (ii 1)) hx hb dX5_hear_65 (by decide) ?_
      refine lv_iadd (pc := 66) hx hb dX5_hear_66 ?_
      replace hf := b2s hf; obtain ⟨r13, I14, hk_15, hf⟩ := hf
      refine x_callV0 (pc := 67) (As := [.int (u8 + (ii 1))]) (rest := []) X V (mX5_tell l D dA s0 hk_15) okX5 ht1 q1701 q1703 qs45 q129 q1704 ⟨rfl, hsX5_tell⟩ ⟨Nat.le_of_ble_eq_true rfl, Nat.le_of_ble_eq_true rfl⟩ rfl hl.1 rfl (Nat.le_of_ble_eq_true rfl) dX5_hear_67 ⟨Nat.zero_le _, Nat.zero_le _⟩ (fun H locs V => W.eq (g2 := F0 m 70 ls [.int r13]) rfl ?_)
      cases hf
      exact x_iret (pc := 70) X V hr dX5_hear_70
    · replace hf := if_t hf c9
      refine lv_aload_n (pc := 36) hx hb dX5_hear_36 rfl (lv_at hl 1 rfl) ?_
      refine lv_bipush (pc := 37) (v := (-5 : Int32)) hx hb dX5_hear_37 (by decide) ?_
      replace hf := b2s hf; obtain ⟨r16, I17, hk_18, hf⟩ := hf
      refine x_callV0 (pc := 39) (As := [.int (-5 : Int32)]) (rest := []) X V (mX5_tell l D dA s0 hk_18) okX5 ht1 q1701 q1703 qs45 q129 q1704 ⟨rfl, hsX5_tell⟩ ⟨Nat.le_of_ble_eq_true rfl, Nat.le_of_ble_eq_true rfl⟩ rfl hl.1 rfl (Nat.le_of_ble_eq_true rfl) dX5_hear_39 ⟨Nat.zero_le _, Nat.zero_le _⟩ (fun H locs V => W.eq (g2 := F0 m 42 ls [.int r16]) rfl ?_)
      cases hf
      exact x_iret (pc := 42) X V hr dX5_hear_42
  · replace hf := if_t hf c5
    refine lv_aload_n (pc := 17) hx hb dX5_hear_17 rfl (lv_at hl 0 rfl) ?_
    refine lv_iconst (pc := 18) (v := (-1 : Int32)) hx hb dX5_hear_18 (by decide) ?_
    replace hf := b2s hf; obtain ⟨r19, I20, hk_21, hf⟩ := hf
    refine x_callV0 (pc := 19) (As := [.int (-1 : Int32)]) (rest := []) X V (mX5_tell l D dA s0 hk_21) okX5 ht1 q1701 q1703 qs45 q129 q1704 ⟨rfl, hsX5_tell⟩ ⟨Nat.le_of_ble_eq_true rfl, Nat.le_of_ble_eq_true rfl⟩ rfl hl.1 rfl (Nat.le_of_ble_eq_true rfl) dX5_hear_19 ⟨Nat.zero_le _, Nat.zero_le _⟩ (fun H locs V => W.eq (g2 := F0 m 22 ls [.int r19]) rfl ?_)
    cases hf
    exact x_iret (pc := 22) X V hr dX5_hear_22
theorem mX5_hear (l : Launch) (D : va_G) (dA : Nat → ClassId) (s0 : Nat) {T : xT} {N : xT} {Z : Nat} {I : xI} {L : xL} {R : xR} {x0 : Nat} {x1 : Int32} {ro : Int32} {Io : xI} (hf : fX5_hear T N I R x0 x1 = some (ro, Io)) : XMet l D dA s0 yX5_hear (ws_ yX5_hear cX5_hear 3 ((some .int))) (1) (25) [.ref x0, .int x1] T N Z I L R (some (.int ro)) T N Z Io L R 0 0 :=
  x_start (own := RX5) rfl (by decide) (Nat.le_of_ble_eq_true rfl) (lv := [(0, .ref x0), (1, .int x1)]) rfl (fun p e s m below meth c ls X hr hini V hl => wX5_hear_e X hr hf V hl)
set_option maxHeartbeats 400000 in
set_option maxRecDepth 100000 in
theorem wX5_forget_e {p : Program} {l : Launch} {e : Env} {s : State} {m : MethodId} {args : Array Value} {below : List Frame} {meth : Method} {c : Code} {D : va_G} {dA : Nat → ClassId} {s0 : Nat} {T : xT} {N : xT} {Z : Nat} {I : xI} {L : xL} {R : xR} {H : Heap} {locs : List Loc} {ls : Array Slot} {x0 : Nat} {ro : Int32} {Io : xI} (X : Cx D dA s0 p m c cX5_forget 2 s args RX5 meth) (hr : meth.sig.returnType = (some .int)) (hf : fX5_forget T N I R x0 = some (ro, Io)) (V : Iv D dA s0 s T N Z I L R H locs) (hl : lv_has ls 2 [(0, .ref x0)]) : W p l e { frames := 0, cells := 0, slots := 0, locals := 0 } s m args below meth c H locs 0 0 (MQ below (xQ D dA s0 (some (.int ro)) T N Z Io L R) args s 0 0 (fun q => s0 ≤ q)) (F0 m 0 ls []) := by
  have hx := X.1.1
  have hb := X.1.2.1
  unfold fX5_forget at hf
  refine lv_aload_n (pc := 0) hx hb dX5_forget_0 rfl (lv_at hl 0 rfl) ?_
  refine lv_iconst (pc := 1) (v := (ii 0)) hx hb dX5_forget_1 (by decide) ?_
  replace hf := tg_s hf; obtain ⟨ht1, hf⟩ := hf
  replace hf := nm_s hf; obtain ⟨I2, hI2, hf⟩ := hf
  refine x_puti (pc := 2) X V okX5 (by decide) ht1 0 (by decide) q1521 (Or.inl rfl) hI2 (fun _ _ _ => rfl) rfl rfl dX5_forget_2 (fun H locs V => ?_)
  refine lv_aload_n (pc := 5) hx hb dX5_forget_5 rfl (lv_at hl 0 rfl) ?_
  replace hf := bs hf; obtain ⟨a3, ha3, hf⟩ := hf
  refine x_get (pc := 6) X V okX5 ht1 3 (by decide) q1524 (v := va_rf (R x0 3)) rfl dX5_forget_6 ?_
  refine x_topr ha3 ?_
  refine lv_iconst (pc := 9) (v := (ii 2)) hx hb dX5_forget_9 (by decide) ?_
  replace hf := rA_s hf; obtain ⟨j4, hjj4, htj4, hij4, hf⟩ := hf
  refine x_iald (pc := 10) X V htj4 hij4 hjj4 dX5_forget_10 ?_
  replace hf := nm_s hf; obtain ⟨u5, hu5, hf⟩ := hf
  refine x_topi hu5 ?_
  refine lv_istore_n (pc := 11) (lv' := [(1, .int u5), (0, .ref x0)]) hx hb dX5_forget_11 rfl hl (by decide) rfl (fun ls hl => ?_)
  refine lv_aload_n (pc := 12) hx hb dX5_forget_12 rfl (lv_at hl 1 rfl) ?_
  refine x_get (pc := 13) X V okX5 ht1 3 (by decide) q1524 (v := va_rf (R x0 3)) rfl dX5_forget_13 ?_
  refine x_topr ha3 ?_
  refine lv_iconst (pc := 16) (v := (ii 2)) hx hb dX5_forget_16 (by decide) ?_
  refine lv_iconst (pc := 17) (v := (ii 0)) hx hb dX5_forget_17 (by decide) ?_
  replace hf := nm_s hf; obtain ⟨I6, hI6, hf⟩ := hf
  refine x_iast (pc := 18) X V htj4 hij4 hjj4 hI6 dX5_forget_18 (fun H locs V => ?_)
  refine lv_iload_n (pc := 19) hx hb dX5_forget_19 rfl (lv_at hl 0 rfl) ?_
  cases hf
  exact x_iret (pc := 20) X V hr dX5_forget_20
theorem mX5_forget (l : Launch) (D : va_G) (dA : Nat → ClassId) (s0 : Nat) {T : xT} {N : xT} {Z : Nat} {I : xI} {L : xL} {R : xR} {x0 : Nat} {ro : Int32} {Io : xI} (hf : fX5_forget T N I R x0 = some (ro, Io)) : XMet l D dA s0 yX5_forget (ws_ yX5_forget cX5_forget 2 ((some .int))) (0) (0) [.ref x0] T N Z I L R (some (.int ro)) T N Z Io L R 0 0 :=
  x_start (own := RX5) rfl (by decide) (Nat.le_of_ble_eq_true rfl) (lv := [(0, .ref x0)]) rfl (fun p e s m below meth c ls X hr hini V hl => wX5_forget_e X hr hf V hl)
set_option maxHeartbeats 400000 in
set_option maxRecDepth 100000 in
theorem wX5_goneFrom_b200 {nf : Nat} {p : Program} {l : Launch} {e : Env} {s : State} {m : MethodId} {args : Array Value} {below : List Frame} {meth : Method} {c : Code} {D : va_G} {dA : Nat → ClassId} {s0 : Nat} {T : xT} {N : xT} {Z : Nat} {L : xL} {R : xR}  {ro : Int32} {Io : xI} (X : Cx D dA s0 p m c cX5_goneFrom 4 s args RX5 meth) (hr : meth.sig.returnType = (some .int))   (k : Nat) : ∀ {I : xI} {x0 : Nat} {x2 : Int32} {x3 : Int32} {H : Heap} {locs : List Loc} {ls : Array Slot} , fX5_goneFrom_b200 nf T N R k I x0 x2 x3 = some (ro, Io) → Iv D dA s0 s T N Z I L R H locs → lv_has ls 4 [(0, .ref x0), (2, .int x2), (3, .int x3)] → W p l e { frames := 0, cells := 0, slots := 0, locals := 0 } s m args below meth c H locs 0 0 (MQ below (xQ D dA s0 (some (.int ro)) T N Z Io L R) args s 0 0 (fun q => s0 ≤ q)) (F0 m 200 ls []) := by
  have hx := X.1.1
  have hb := X.1.2.1
  induction k with
  | zero =>
    intro I x0 x2 x3 H locs ls hf V hl
    exact absurd (show none = some _ from hf) (fun q => nomatch q)
  | succ k ih =>
    intro I x0 x2 x3 H locs ls hf V hl
    rw [fX5_goneFrom_b200] at hf
    refine lv_iload_n (pc := 200) hx hb dX5_goneFrom_200 rfl (lv_at hl 2 rfl) ?_
    refine lv_bipush (pc := 201) (v := (ii 8)) hx hb dX5_goneFrom_201 (by decide) ?_
    refine lv_icmp_ge (pc := 203) (tgt := 221) hx hb dX5_goneFrom_203 (by decide) (fun c1 => ?_) (fun c1 => ?_)
    · replace hf := if_t hf c1
      refine lv_iload_n (pc := 221) hx hb dX5_goneFrom_221 rfl (lv_at hl 1 rfl) ?_
      cases hf
      exact x_iret (pc := 222) X V hr dX5_goneFrom_222
    · replace hf := if_f hf c1
      refine lv_iload_n (pc := 206) hx hb dX5_goneFrom_206 rfl (lv_at hl 1 rfl) ?_
      refine lv_aload_n (pc := 207) hx hb dX5_goneFrom_207 rfl (lv_at hl 0 rfl) ?_
      replace hf := tg_s hf; obtain ⟨ht2, hf⟩ := hf
      replace hf := bs hf; obtain ⟨a3, ha3, hf⟩ := hf
      refine x_get (pc := 208) X V okX5 ht2 43 (by decide) q1564 (v := va_rf (R x0 43)) rfl dX5_goneFrom_208 ?_
      refine x_topr ha3 ?_
      refine lv_iload_n (pc := 211) hx hb dX5_goneFrom_211 rfl (lv_at hl 2 rfl) ?_
      replace hf := rA_s hf; obtain ⟨j4, hjj4, htj4, hij4, hf⟩ := hf
      refine x_iald (pc := 212) X V htj4 hij4 hjj4 dX5_goneFrom_212 ?_
      refine lv_iadd (pc := 213) hx hb dX5_goneFrom_213 ?_
      replace hf := nm_s hf; obtain ⟨u5, hu5, hf⟩ := hf
      refine x_topi hu5 ?_
      refine lv_istore_n (pc := 214) (lv' := [(2, .int u5), (0, .ref x0), (3, .int x3)]) hx hb dX5_goneFrom_214 rfl hl (by decide) rfl (fun ls hl => ?_)
      replace hf := nm_s hf; obtain ⟨u6, hu6, hf⟩ := hf
      refine lv_iinc (pc := 215) (v := u6) (lv' := [(3, .int u6), (2, .int u5), (0, .ref x0)]) hx hb dX5_goneFrom_215 hl (k := 2) rfl (by rw [hu6]; rfl) (by decide) rfl (fun ls hl => ?_)
      refine lv_goto (pc := 218) (tgt := 200) hx hb dX5_goneFrom_218 (by decide) ?_
      exact ih hf V (lv_sub hl [2, 1, 0] rfl)
set_option maxHeartbeats 400000 in
set_option maxRecDepth 100000 in
theorem wX5_goneFrom_b166 {nf : Nat} {p : Program} {l : Launch} {e : Env} {s : State} {m : MethodId} {args : Array Value} {below : List Frame} {meth : Method} {c : Code} {D : va_G} {dA : Nat → ClassId} {s0 : Nat} {T : xT} {N : xT} {Z : Nat} {L : xL} {R : xR} {kk32 : xI → Nat → Int32 → Option (Int32 × xI)} {ro : Int32} {Io : xI} (X : Cx D dA s0 p m c cX5_goneFrom 4 s args RX5 meth) (hr : meth.sig.returnType = (some .int)) (hk32 : ∀ {I : xI} {x0 : Nat} {x2 : Int32} {H : Heap} {locs : List Loc} {ls : Array Slot} , kk32 I x0 x2 = some (ro, Io) → Iv D dA s0 s T N Z I L R H locs → lv_has ls 4 [(0, .ref x0), (2, .int x2)] → W p l e { frames := 0, cells := 0, slots := 0, locals := 0 } s m args below meth c H locs 0 0 (MQ below (xQ D dA s0 (some (.int ro)) T N Z Io L R) args s 0 0 (fun q => s0 ≤ q)) (F0 m 32 ls []))  (k : Nat) : ∀ {I : xI} {x0 : Nat} {x2 : Int32} {x3 : Int32} {H : Heap} {locs : List Loc} {ls : Array Slot} , fX5_goneFrom_b166 nf kk32 T N R k I x0 x2 x3 = some (ro, Io) → Iv D dA s0 s T N Z I L R H locs → lv_has ls 4 [(0, .ref x0), (2, .int x2), (3, .int x3)] → W p l e { frames := 0, cells := 0, slots := 0, locals := 0 } s m args below meth c H locs 0 0 (MQ below (xQ D dA s0 (some (.int ro)) T N Z Io L R) args s 0 0 (fun q => s0 ≤ q)) (F0 m 166 ls []) := by
  have hx := X.1.1
  have hb := X.1.2.1
  induction k with
  | zero =>
    intro I x0 x2 x3 H locs ls hf V hl
    exact absurd (show none = some _ from hf) (fun q => nomatch q)
  | succ k ih =>
    intro I x0 x2 x3 H locs ls hf V hl
    rw [fX5_goneFrom_b166] at hf
    refine lv_iload_n (pc := 166) hx hb dX5_goneFrom_166 rfl (lv_at hl 2 rfl) ?_
    refine lv_bipush (pc := 167) (v := (ii 8)) hx hb dX5_goneFrom_167 (by decide) ?_
    refine lv_icmp_ge (pc := 169) (tgt := 190) hx hb dX5_goneFrom_169 (by decide) (fun c1 => ?_) (fun c1 => ?_)
    · replace hf := if_t hf c1
      replace hf := nm_s hf; obtain ⟨u2, hu2, hf⟩ := hf
      refine lv_iinc (pc := 190) (v := u2) (lv' := [(2, .int u2), (0, .ref x0), (3, .int x3)]) hx hb dX5_goneFrom_190 hl (k := 1) rfl (by rw [hu2]; rfl) (by decide) rfl (fun ls hl => ?_)
      refine lv_goto (pc := 193) (tgt := 32) hx hb dX5_goneFrom_193 (by decide) ?_
      exact hk32 hf V (lv_sub hl [1, 0] rfl)
    · replace hf := if_f hf c1
      refine lv_aload_n (pc := 172) hx hb dX5_goneFrom_172 rfl (lv_at hl 0 rfl) ?_
      replace hf := tg_s hf; obtain ⟨ht3, hf⟩ := hf
      replace hf := bs hf; obtain ⟨a4, ha4, hf⟩ := hf
      refine x_get (pc := 173) X V okX5 ht3 43 (by decide) q1564 (v := va_rf (R x0 43)) rfl dX5_goneFrom_173 ?_
      refine x_topr ha4 ?_
      refine lv_iload_n (pc := 176) hx hb dX5_goneFrom_176 rfl (lv_at hl 2 rfl) ?_
      refine lv_aload_n (pc := 177) hx hb dX5_goneFrom_177 rfl (lv_at hl 0 rfl) ?_
      replace hf := bs hf; obtain ⟨a5, ha5, hf⟩ := hf
      refine x_get (pc := 178) X V okX5 ht3 44 (by decide) q1565 (v := va_rf (R x0 44)) rfl dX5_goneFrom_178 ?_
      refine x_topr ha5 ?_
      refine lv_iload_n (pc := 181) hx hb dX5_goneFrom_181 rfl (lv_at hl 2 rfl) ?_
      replace hf := rA_s hf; obtain ⟨j6, hjj6, htj6, hij6, hf⟩ := hf
      refine x_iald (pc := 182) X V htj6 hij6 hjj6 dX5_goneFrom_182 ?_
      replace hf := rA_s hf; obtain ⟨j7, hjj7, htj7, hij7, hf⟩ := hf
      replace hf := nm_s hf; obtain ⟨I8, hI8, hf⟩ := hf
      refine x_iast (pc := 183) X V htj7 hij7 hjj7 hI8 dX5_goneFrom_183 (fun H locs V => ?_)
      replace hf := nm_s hf; obtain ⟨u9, hu9, hf⟩ := hf
      refine lv_iinc (pc := 184) (v := u9) (lv' := [(3, .int u9), (0, .ref x0), (2, .int x2)]) hx hb dX5_goneFrom_184 hl (k := 2) rfl (by rw [hu9]; rfl) (by decide) rfl (fun ls hl => ?_)
      refine lv_goto (pc := 187) (tgt := 166) hx hb dX5_goneFrom_187 (by decide) ?_
      exact ih hf V (lv_sub hl [1, 2, 0] rfl)
set_option maxHeartbeats 400000 in
set_option maxRecDepth 100000 in
theorem wX5_goneFrom_b65 {nf : Nat} {p : Program} {l : Launch} {e : Env} {s : State} {m : MethodId} {args : Array Value} {below : List Frame} {meth : Method} {c : Code} {D : va_G} {dA : Nat → ClassId} {s0 : Nat} {T : xT} {N : xT} {Z : Nat} {L : xL} {R : xR} {kk32 : xI → Nat → Int32 → Option (Int32 × xI)} {ro : Int32} {Io : xI} (X : Cx D dA s0 p m c cX5_goneFrom 4 s args RX5 meth) (hr : meth.sig.returnType = (some .int)) (hk32 : ∀ {I : xI} {x0 : Nat} {x2 : Int32} {H : Heap} {locs : List Loc} {ls : Array Slot} , kk32 I x0 x2 = some (ro, Io) → Iv D dA s0 s T N Z I L R H locs → lv_has ls 4 [(0, .ref x0), (2, .int x2)] → W p l e { frames := 0, cells := 0, slots := 0, locals := 0 } s m args below meth c H locs 0 0 (MQ below (xQ D dA s0 (some (.int ro)) T N Z Io L R) args s 0 0 (fun q => s0 ≤ q)) (F0 m 32 ls []))  (k : Nat) : ∀ {I : xI} {x0 : Nat} {x2 : Int32} {x3 : Int32} {H : Heap} {locs : List Loc} {ls : Array Slot} , fX5_goneFrom_b65 nf kk32 T N R k I x0 x2 x3 = some (ro, Io) → Iv D dA s0 s T N Z I L R H locs → lv_has ls 4 [(0, .ref x0), (2, .int x2), (3, .int x3)] → W p l e { frames := 0, cells := 0, slots := 0, locals := 0 } s m args below meth c H locs 0 0 (MQ below (xQ D dA s0 (some (.int ro)) T N Z Io L R) args s 0 0 (fun q => s0 ≤ q)) (F0 m 65 ls []) := by
  have hx := X.1.1
  have hb := X.1.2.1
  induction k with
  | zero =>
    intro I x0 x2 x3 H locs ls hf V hl
    exact absurd (show none = some _ from hf) (fun q => nomatch q)
  | succ k ih =>
    intro I x0 x2 x3 H locs ls hf V hl
    rw [fX5_goneFrom_b65] at hf
    refine lv_iload_n (pc := 65) hx hb dX5_goneFrom_65 rfl (lv_at hl 2 rfl) ?_
    refine lv_aload_n (pc := 66) hx hb dX5_goneFrom_66 rfl (lv_at hl 0 rfl) ?_
    replace hf := tg_s hf; obtain ⟨ht1, hf⟩ := hf
    replace hf := bs hf; obtain ⟨a2, ha2, hf⟩ := hf
    refine x_get (pc := 67) X V okX5 ht1 3 (by decide) q1524 (v := va_rf (R x0 3)) rfl dX5_goneFrom_67 ?_
    refine x_topr ha2 ?_
    refine lv_iconst (pc := 70) (v := (ii 0)) hx hb dX5_goneFrom_70 (by decide) ?_
    replace hf := rA_s hf; obtain ⟨j3, hjj3, htj3, hij3, hf⟩ := hf
    refine x_iald (pc := 71) X V htj3 hij3 hjj3 dX5_goneFrom_71 ?_
    refine lv_icmp_ge (pc := 72) (tgt := 164) hx hb dX5_goneFrom_72 (by decide) (fun c4 => ?_) (fun c4 => ?_)
    · replace hf := if_t hf c4
      refine lv_iconst (pc := 164) (v := (ii 0)) hx hb dX5_goneFrom_164 (by decide) ?_
      refine lv_istore_n (pc := 165) (lv' := [(3, .int (ii 0)), (0, .ref x0), (2, .int x2)]) hx hb dX5_goneFrom_165 rfl hl (by decide) rfl (fun ls hl => ?_)
      exact wX5_goneFrom_b166 X hr hk32 nf hf V (lv_sub hl [1, 2, 0] rfl)
    · replace hf := if_f hf c4
      refine lv_aload_n (pc := 75) hx hb dX5_goneFrom_75 rfl (lv_at hl 0 rfl) ?_
      refine x_get (pc := 76) X V okX5 ht1 3 (by decide) q1524 (v := va_rf (R x0 3)) rfl dX5_goneFrom_76 ?_
      refine x_topr ha2 ?_
      refine lv_bipush (pc := 79) (v := (ii 8)) hx hb dX5_goneFrom_79 (by decide) ?_
      refine lv_iload_n (pc := 81) hx hb dX5_goneFrom_81 rfl (lv_at hl 2 rfl) ?_
      refine lv_iadd (pc := 82) hx hb dX5_goneFrom_82 ?_
      replace hf := rA_s hf; obtain ⟨j5, hjj5, htj5, hij5, hf⟩ := hf
      refine x_iald (pc := 83) X V htj5 hij5 hjj5 dX5_goneFrom_83 ?_
      refine lv_aload_n (pc := 84) hx hb dX5_goneFrom_84 rfl (lv_at hl 0 rfl) ?_
      refine x_get (pc := 85) X V okX5 ht1 3 (by decide) q1524 (v := va_rf (R x0 3)) rfl dX5_goneFrom_85 ?_
      refine x_topr ha2 ?_
      refine lv_bipush (pc := 88) (v := (ii 70)) hx hb dX5_goneFrom_88 (by decide) ?_
      refine lv_iload_n (pc := 90) hx hb dX5_goneFrom_90 rfl (lv_at hl 1 rfl) ?_
      refine lv_iadd (pc := 91) hx hb dX5_goneFrom_91 ?_
      replace hf := rA_s hf; obtain ⟨j6, hjj6, htj6, hij6, hf⟩ := hf
      refine x_iald (pc := 92) X V htj6 hij6 hjj6 dX5_goneFrom_92 ?_
      refine lv_icmp_ne (pc := 93) (tgt := 158) hx hb dX5_goneFrom_93 (by decide) (fun c7 => ?_) (fun c7 => ?_)
      · replace hf := if_f hf c7
        replace hf := nm_s hf; obtain ⟨u8, hu8, hf⟩ := hf
        refine lv_iinc (pc := 158) (v := u8) (lv' := [(3, .int u8), (0, .ref x0), (2, .int x2)]) hx hb dX5_goneFrom_158 hl (k := 2) rfl (by rw [hu8]; rfl) (by decide) rfl (fun ls hl => ?_)
        refine lv_goto (pc := 161) (tgt := 65) hx hb dX5_goneFrom_161 (by decide) ?_
        exact ih hf V (lv_sub hl [1, 2, 0] rfl)
      · replace hf := if_t hf c7
        refine lv_aload_n (pc := 96) hx hb dX5_goneFrom_96 rfl (lv_at hl 0 rfl) ?_
        replace hf := bs hf; obtain ⟨a9, ha9, hf⟩ := hf
        refine x_get (pc := 97) X V okX5 ht1 44 (by decide) q1565 (v := va_rf (R x0 44)) rfl dX5_goneFrom_97 ?_
        refine x_topr ha9 ?_
        refine lv_aload_n (pc := 100) hx hb dX5_goneFrom_100 rfl (lv_at hl 0 rfl) ?_
        refine x_get (pc := 101) X V okX5 ht1 3 (by decide) q1524 (v := va_rf (R x0 3)) rfl dX5_goneFrom_101 ?_
        refine x_topr ha2 ?_
        refine lv_bipush (pc := 104) (v := (ii 36)) hx hb dX5_goneFrom_104 (by decide) ?_
        refine lv_iload_n (pc := 106) hx hb dX5_goneFrom_106 rfl (lv_at hl 2 rfl) ?_
        refine lv_iadd (pc := 107) hx hb dX5_goneFrom_107 ?_
        replace hf := rA_s hf; obtain ⟨j10, hjj10, htj10, hij10, hf⟩ := hf
        refine x_iald (pc := 108) X V htj10 hij10 hjj10 dX5_goneFrom_108 ?_
        refine lv_dup2_11 (pc := 109) hx hb dX5_goneFrom_109 rfl rfl ?_
        replace hf := rA_s hf; obtain ⟨j11, hjj11, htj11, hij11, hf⟩ := hf
        refine x_iald (pc := 110) X V htj11 hij11 hjj11 dX5_goneFrom_110 ?_
        refine lv_aload_n (pc := 111) hx hb dX5_goneFrom_111 rfl (lv_at hl 0 rfl) ?_
        replace hf := bs hf; obtain ⟨a12, ha12, hf⟩ := hf
        refine x_get (pc := 112) X V okX5 ht1 43 (by decide) q1564 (v := va_rf (R x0 43)) rfl dX5_goneFrom_112 ?_
        refine x_topr ha12 ?_
        refine lv_aload_n (pc := 115) hx hb dX5_goneFrom_115 rfl (lv_at hl 0 rfl) ?_
        refine x_get (pc := 116) X V okX5 ht1 3 (by decide) q1524 (v := va_rf (R x0 3)) rfl dX5_goneFrom_116 ?_
        refine x_topr ha2 ?_
        refine lv_bipush (pc := 119) (v := (ii 26)) hx hb dX5_goneFrom_119 (by decide) ?_
        refine lv_iload_n (pc := 121) hx hb dX5_goneFrom_121 rfl (lv_at hl 2 rfl) ?_
        refine lv_iadd (pc := 122) hx hb dX5_goneFrom_122 ?_
        replace hf := rA_s hf; obtain ⟨j13, hjj13, htj13, hij13, hf⟩ := hf
        refine x_iald (pc := 123) X V htj13 hij13 hjj13 dX5_goneFrom_123 ?_
        replace hf := rA_s hf; obtain ⟨j14, hjj14, htj14, hij14, hf⟩ := hf
        refine x_iald (pc := 124) X V htj14 hij14 hjj14 dX5_goneFrom_124 ?_
        refine lv_iadd (pc := 125) hx hb dX5_goneFrom_125 ?_
        replace hf := nm_s hf; obtain ⟨I15, hI15, hf⟩ := hf
        refine x_iast (pc := 126) X V htj11 hij11 hjj11 hI15 dX5_goneFrom_126 (fun H locs V => ?_)
        refine lv_aload_n (pc := 127) hx hb dX5_goneFrom_127 rfl (lv_at hl 0 rfl) ?_
        refine x_get (pc := 128) X V okX5 ht1 44 (by decide) q1565 (v := va_rf (R x0 44)) rfl dX5_goneFrom_128 ?_
        refine x_topr ha9 ?_
        refine lv_aload_n (pc := 131) hx hb dX5_goneFrom_131 rfl (lv_at hl 0 rfl) ?_
        refine x_get (pc := 132) X V okX5 ht1 3 (by decide) q1524 (v := va_rf (R x0 3)) rfl dX5_goneFrom_132 ?_
        refine x_topr ha2 ?_
        refine lv_bipush (pc := 135) (v := (ii 26)) hx hb dX5_goneFrom_135 (by decide) ?_
        refine lv_iload_n (pc := 137) hx hb dX5_goneFrom_137 rfl (lv_at hl 2 rfl) ?_
        refine lv_iadd (pc := 138) hx hb dX5_goneFrom_138 ?_
        refine x_iald (pc := 139) X V htj13 hij13 hjj13 dX5_goneFrom_139 ?_
        refine lv_dup2_11 (pc := 140) hx hb dX5_goneFrom_140 rfl rfl ?_
        replace hf := rA_s hf; obtain ⟨j16, hjj16, htj16, hij16, hf⟩ := hf
        refine x_iald (pc := 141) X V htj16 hij16 hjj16 dX5_goneFrom_141 ?_
        refine lv_aload_n (pc := 142) hx hb dX5_goneFrom_142 rfl (lv_at hl 0 rfl) ?_
        refine x_get (pc := 143) X V okX5 ht1 43 (by decide) q1564 (v := va_rf (R x0 43)) rfl dX5_goneFrom_143 ?_
        refine x_topr ha12 ?_
        refine lv_aload_n (pc := 146) hx hb dX5_goneFrom_146 rfl (lv_at hl 0 rfl) ?_
        refine x_get (pc := 147) X V okX5 ht1 3 (by decide) q1524 (v := va_rf (R x0 3)) rfl dX5_goneFrom_147 ?_
        refine x_topr ha2 ?_
        refine lv_bipush (pc := 150) (v := (ii 36)) hx hb dX5_goneFrom_150 (by decide) ?_
        refine lv_iload_n (pc := 152) hx hb dX5_goneFrom_152 rfl (lv_at hl 2 rfl) ?_
        refine lv_iadd (pc := 153) hx hb dX5_goneFrom_153 ?_
        refine x_iald (pc := 154) X V htj10 hij10 hjj10 dX5_goneFrom_154 ?_
        replace hf := rA_s hf; obtain ⟨j17, hjj17, htj17, hij17, hf⟩ := hf
        refine x_iald (pc := 155) X V htj17 hij17 hjj17 dX5_goneFrom_155 ?_
        refine lv_iadd (pc := 156) hx hb dX5_goneFrom_156 ?_
        replace hf := nm_s hf; obtain ⟨I18, hI18, hf⟩ := hf
        refine x_iast (pc := 157) X V htj16 hij16 hjj16 hI18 dX5_goneFrom_157 (fun H locs V => ?_)
        replace hf := nm_s hf; obtain ⟨u19, hu19, hf⟩ := hf
        refine lv_iinc (pc := 158) (v := u19) (lv' := [(3, .int u19), (0, .ref x0), (2, .int x2)]) hx hb dX5_goneFrom_158 hl (k := 2) rfl (by rw [hu19]; rfl) (by decide) rfl (fun ls hl => ?_)
        refine lv_goto (pc := 161) (tgt := 65) hx hb dX5_goneFrom_161 (by decide) ?_
        exact ih hf V (lv_sub hl [1, 2, 0] rfl)
set_option maxHeartbeats 400000 in
set_option maxRecDepth 100000 in
theorem wX5_goneFrom_b44 {nf : Nat} {p : Program} {l : Launch} {e : Env} {s : State} {m : MethodId} {args : Array Value} {below : List Frame} {meth : Method} {c : Code} {D : va_G} {dA : Nat → ClassId} {s0 : Nat} {T : xT} {N : xT} {Z : Nat} {L : xL} {R : xR} {kk32 : xI → Nat → Int32 → Option (Int32 × xI)} {ro : Int32} {Io : xI} (X : Cx D dA s0 p m c cX5_goneFrom 4 s args RX5 meth) (hr : meth.sig.returnType = (some .int)) (hk32 : ∀ {I : xI} {x0 : Nat} {x2 : Int32} {H : Heap} {locs : List Loc} {ls : Array Slot} , kk32 I x0 x2 = some (ro, Io) → Iv D dA s0 s T N Z I L R H locs → lv_has ls 4 [(0, .ref x0), (2, .int x2)] → W p l e { frames := 0, cells := 0, slots := 0, locals := 0 } s m args below meth c H locs 0 0 (MQ below (xQ D dA s0 (some (.int ro)) T N Z Io L R) args s 0 0 (fun q => s0 ≤ q)) (F0 m 32 ls []))  (k : Nat) : ∀ {I : xI} {x0 : Nat} {x2 : Int32} {x3 : Int32} {H : Heap} {locs : List Loc} {ls : Array Slot} , fX5_goneFrom_b44 nf kk32 T N R k I x0 x2 x3 = some (ro, Io) → Iv D dA s0 s T N Z I L R H locs → lv_has ls 4 [(0, .ref x0), (2, .int x2), (3, .int x3)] → W p l e { frames := 0, cells := 0, slots := 0, locals := 0 } s m args below meth c H locs 0 0 (MQ below (xQ D dA s0 (some (.int ro)) T N Z Io L R) args s 0 0 (fun q => s0 ≤ q)) (F0 m 44 ls []) := by
  have hx := X.1.1
  have hb := X.1.2.1
  induction k with
  | zero =>
    intro I x0 x2 x3 H locs ls hf V hl
    exact absurd (show none = some _ from hf) (fun q => nomatch q)
  | succ k ih =>
    intro I x0 x2 x3 H locs ls hf V hl
    rw [fX5_goneFrom_b44] at hf
    refine lv_iload_n (pc := 44) hx hb dX5_goneFrom_44 rfl (lv_at hl 2 rfl) ?_
    refine lv_bipush (pc := 45) (v := (ii 8)) hx hb dX5_goneFrom_45 (by decide) ?_
    refine lv_icmp_ge (pc := 47) (tgt := 63) hx hb dX5_goneFrom_47 (by decide) (fun c1 => ?_) (fun c1 => ?_)
    · replace hf := if_t hf c1
      refine lv_iconst (pc := 63) (v := (ii 0)) hx hb dX5_goneFrom_63 (by decide) ?_
      refine lv_istore_n (pc := 64) (lv' := [(3, .int (ii 0)), (0, .ref x0), (2, .int x2)]) hx hb dX5_goneFrom_64 rfl hl (by decide) rfl (fun ls hl => ?_)
      exact wX5_goneFrom_b65 X hr hk32 nf hf V (lv_sub hl [1, 2, 0] rfl)
    · replace hf := if_f hf c1
      refine lv_aload_n (pc := 50) hx hb dX5_goneFrom_50 rfl (lv_at hl 0 rfl) ?_
      replace hf := tg_s hf; obtain ⟨ht2, hf⟩ := hf
      replace hf := bs hf; obtain ⟨a3, ha3, hf⟩ := hf
      refine x_get (pc := 51) X V okX5 ht2 44 (by decide) q1565 (v := va_rf (R x0 44)) rfl dX5_goneFrom_51 ?_
      refine x_topr ha3 ?_
      refine lv_iload_n (pc := 54) hx hb dX5_goneFrom_54 rfl (lv_at hl 2 rfl) ?_
      refine lv_iconst (pc := 55) (v := (ii 0)) hx hb dX5_goneFrom_55 (by decide) ?_
      replace hf := rA_s hf; obtain ⟨j4, hjj4, htj4, hij4, hf⟩ := hf
      replace hf := nm_s hf; obtain ⟨I5, hI5, hf⟩ := hf
      refine x_iast (pc := 56) X V htj4 hij4 hjj4 hI5 dX5_goneFrom_56 (fun H locs V => ?_)
      replace hf := nm_s hf; obtain ⟨u6, hu6, hf⟩ := hf
      refine lv_iinc (pc := 57) (v := u6) (lv' := [(3, .int u6), (0, .ref x0), (2, .int x2)]) hx hb dX5_goneFrom_57 hl (k := 2) rfl (by rw [hu6]; rfl) (by decide) rfl (fun ls hl => ?_)
      refine lv_goto (pc := 60) (tgt := 44) hx hb dX5_goneFrom_60 (by decide) ?_
      exact ih hf V (lv_sub hl [1, 2, 0] rfl)
set_option maxHeartbeats 400000 in
set_option maxRecDepth 100000 in
theorem wX5_goneFrom_b32 {nf : Nat} {p : Program} {l : Launch} {e : Env} {s : State} {m : MethodId} {args : Array Value} {below : List Frame} {meth : Method} {c : Code} {D : va_G} {dA : Nat → ClassId} {s0 : Nat} {T : xT} {N : xT} {Z : Nat} {L : xL} {R : xR}  {ro : Int32} {Io : xI} (X : Cx D dA s0 p m c cX5_goneFrom 4 s args RX5 meth) (hr : meth.sig.returnType = (some .int))   (k : Nat) : ∀ {I : xI} {x0 : Nat} {x2 : Int32} {H : Heap} {locs : List Loc} {ls : Array Slot} , fX5_goneFrom_b32 nf T N R k I x0 x2 = some (ro, Io) → Iv D dA s0 s T N Z I L R H locs → lv_has ls 4 [(0, .ref x0), (2, .int x2)] → W p l e { frames := 0, cells := 0, slots := 0, locals := 0 } s m args below meth c H locs 0 0 (MQ below (xQ D dA s0 (some (.int ro)) T N Z Io L R) args s 0 0 (fun q => s0 ≤ q)) (F0 m 32 ls []) := by
  have hx := X.1.1
  have hb := X.1.2.1
  induction k with
  | zero =>
    intro I x0 x2 H locs ls hf V hl
    exact absurd (show none = some _ from hf) (fun q => nomatch q)
  | succ k ih =>
    intro I x0 x2 H locs ls hf V hl
    rw [fX5_goneFrom_b32] at hf
    refine lv_iload_n (pc := 32) hx hb dX5_goneFrom_32 rfl (lv_at hl 1 rfl) ?_
    refine lv_aload_n (pc := 33) hx hb dX5_goneFrom_33 rfl (lv_at hl 0 rfl) ?_
    replace hf := tg_s hf; obtain ⟨ht1, hf⟩ := hf
    replace hf := bs hf; obtain ⟨a2, ha2, hf⟩ := hf
    refine x_get (pc := 34) X V okX5 ht1 3 (by decide) q1524 (v := va_rf (R x0 3)) rfl dX5_goneFrom_34 ?_
    refine x_topr ha2 ?_
    refine lv_iconst (pc := 37) (v := (ii 2)) hx hb dX5_goneFrom_37 (by decide) ?_
    replace hf := rA_s hf; obtain ⟨j3, hjj3, htj3, hij3, hf⟩ := hf
    refine x_iald (pc := 38) X V htj3 hij3 hjj3 dX5_goneFrom_38 ?_
    refine lv_icmp_ge (pc := 39) (tgt := 196) hx hb dX5_goneFrom_39 (by decide) (fun c4 => ?_) (fun c4 => ?_)
    · replace hf := if_t hf c4
      refine lv_iconst (pc := 196) (v := (ii 0)) hx hb dX5_goneFrom_196 (by decide) ?_
      refine lv_istore_n (pc := 197) (lv' := [(2, .int (ii 0)), (0, .ref x0)]) hx hb dX5_goneFrom_197 rfl hl (by decide) rfl (fun ls hl => ?_)
      refine lv_iconst (pc := 198) (v := (ii 0)) hx hb dX5_goneFrom_198 (by decide) ?_
      refine lv_istore_n (pc := 199) (lv' := [(3, .int (ii 0)), (2, .int (ii 0)), (0, .ref x0)]) hx hb dX5_goneFrom_199 rfl hl (by decide) rfl (fun ls hl => ?_)
      exact wX5_goneFrom_b200 X hr nf hf V (lv_sub hl [2, 1, 0] rfl)
    · replace hf := if_f hf c4
      refine lv_iconst (pc := 42) (v := (ii 0)) hx hb dX5_goneFrom_42 (by decide) ?_
      refine lv_istore_n (pc := 43) (lv' := [(3, .int (ii 0)), (0, .ref x0), (2, .int x2)]) hx hb dX5_goneFrom_43 rfl hl (by decide) rfl (fun ls hl => ?_)
      exact wX5_goneFrom_b44 X hr ih nf hf V (lv_sub hl [1, 2, 0] rfl)
set_option maxHeartbeats 400000 in
set_option maxRecDepth 100000 in
theorem wX5_goneFrom_b2 {nf : Nat} {p : Program} {l : Launch} {e : Env} {s : State} {m : MethodId} {args : Array Value} {below : List Frame} {meth : Method} {c : Code} {D : va_G} {dA : Nat → ClassId} {s0 : Nat} {T : xT} {N : xT} {Z : Nat} {L : xL} {R : xR}  {ro : Int32} {Io : xI} (X : Cx D dA s0 p m c cX5_goneFrom 4 s args RX5 meth) (hr : meth.sig.returnType = (some .int))   (k : Nat) : ∀ {I : xI} {x0 : Nat} {x1 : Int32} {x2 : Int32} {H : Heap} {locs : List Loc} {ls : Array Slot} , fX5_goneFrom_b2 nf T N R k I x0 x1 x2 = some (ro, Io) → Iv D dA s0 s T N Z I L R H locs → lv_has ls 4 [(0, .ref x0), (1, .int x1), (2, .int x2)] → W p l e { frames := 0, cells := 0, slots := 0, locals := 0 } s m args below meth c H locs 0 0 (MQ below (xQ D dA s0 (some (.int ro)) T N Z Io L R) args s 0 0 (fun q => s0 ≤ q)) (F0 m 2 ls []) := by
  have hx := X.1.1
  have hb := X.1.2.1
  induction k with
  | zero =>
    intro I x0 x1 x2 H locs ls hf V hl
    exact absurd (show none = some _ from hf) (fun q => nomatch q)
  | succ k ih =>
    intro I x0 x1 x2 H locs ls hf V hl
    rw [fX5_goneFrom_b2] at hf
    refine lv_iload_n (pc := 2) hx hb dX5_goneFrom_2 rfl (lv_at hl 2 rfl) ?_
    refine lv_bipush (pc := 3) (v := (ii 8)) hx hb dX5_goneFrom_3 (by decide) ?_
    refine lv_icmp_ge (pc := 5) (tgt := 30) hx hb dX5_goneFrom_5 (by decide) (fun c1 => ?_) (fun c1 => ?_)
    · replace hf := if_t hf c1
      refine lv_iconst (pc := 30) (v := (ii 0)) hx hb dX5_goneFrom_30 (by decide) ?_
      refine lv_istore_n (pc := 31) (lv' := [(2, .int (ii 0)), (0, .ref x0), (1, .int x1)]) hx hb dX5_goneFrom_31 rfl hl (by decide) rfl (fun ls hl => ?_)
      exact wX5_goneFrom_b32 X hr nf hf V (lv_sub hl [1, 0] rfl)
    · replace hf := if_f hf c1
      refine lv_aload_n (pc := 8) hx hb dX5_goneFrom_8 rfl (lv_at hl 0 rfl) ?_
      replace hf := tg_s hf; obtain ⟨ht2, hf⟩ := hf
      replace hf := bs hf; obtain ⟨a3, ha3, hf⟩ := hf
      refine x_get (pc := 9) X V okX5 ht2 43 (by decide) q1564 (v := va_rf (R x0 43)) rfl dX5_goneFrom_9 ?_
      refine x_topr ha3 ?_
      refine lv_iload_n (pc := 12) hx hb dX5_goneFrom_12 rfl (lv_at hl 2 rfl) ?_
      refine lv_iload_n (pc := 13) hx hb dX5_goneFrom_13 rfl (lv_at hl 2 rfl) ?_
      refine lv_iload_n (pc := 14) hx hb dX5_goneFrom_14 rfl (lv_at hl 1 rfl) ?_
      refine lv_icmp_ne (pc := 15) (tgt := 22) hx hb dX5_goneFrom_15 (by decide) (fun c4 => ?_) (fun c4 => ?_)
      · replace hf := if_f hf c4
        refine lv_iconst (pc := 22) (v := (ii 0)) hx hb dX5_goneFrom_22 (by decide) ?_
        replace hf := rA_s hf; obtain ⟨j5, hjj5, htj5, hij5, hf⟩ := hf
        replace hf := nm_s hf; obtain ⟨I6, hI6, hf⟩ := hf
        refine x_iast (pc := 23) X V htj5 hij5 hjj5 hI6 dX5_goneFrom_23 (fun H locs V => ?_)
        replace hf := nm_s hf; obtain ⟨u7, hu7, hf⟩ := hf
        refine lv_iinc (pc := 24) (v := u7) (lv' := [(2, .int u7), (0, .ref x0), (1, .int x1)]) hx hb dX5_goneFrom_24 hl (k := 2) rfl (by rw [hu7]; rfl) (by decide) rfl (fun ls hl => ?_)
        refine lv_goto (pc := 27) (tgt := 2) hx hb dX5_goneFrom_27 (by decide) ?_
        exact ih hf V (lv_sub hl [1, 2, 0] rfl)
      · replace hf := if_t hf c4
        refine lv_iconst (pc := 18) (v := (ii 1)) hx hb dX5_goneFrom_18 (by decide) ?_
        refine lv_goto (pc := 19) (tgt := 23) hx hb dX5_goneFrom_19 (by decide) ?_
        replace hf := rA_s hf; obtain ⟨j8, hjj8, htj8, hij8, hf⟩ := hf
        replace hf := nm_s hf; obtain ⟨I9, hI9, hf⟩ := hf
        refine x_iast (pc := 23) X V htj8 hij8 hjj8 hI9 dX5_goneFrom_23 (fun H locs V => ?_)
        replace hf := nm_s hf; obtain ⟨u10, hu10, hf⟩ := hf
        refine lv_iinc (pc := 24) (v := u10) (lv' := [(2, .int u10), (0, .ref x0), (1, .int x1)]) hx hb dX5_goneFrom_24 hl (k := 2) rfl (by rw [hu10]; rfl) (by decide) rfl (fun ls hl => ?_)
        refine lv_goto (pc := 27) (tgt := 2) hx hb dX5_goneFrom_27 (by decide) ?_
        exact ih hf V (lv_sub hl [1, 2, 0] rfl)
set_option maxHeartbeats 400000 in
set_option maxRecDepth 100000 in
theorem wX5_goneFrom_e {nf : Nat} {p : Program} {l : Launch} {e : Env} {s : State} {m : MethodId} {args : Array Value} {below : List Frame} {meth : Method} {c : Code} {D : va_G} {dA : Nat → ClassId} {s0 : Nat} {T : xT} {N : xT} {Z : Nat} {I : xI} {L : xL} {R : xR} {H : Heap} {locs : List Loc} {ls : Array Slot} {x0 : Nat} {x1 : Int32} {ro : Int32} {Io : xI} (X : Cx D dA s0 p m c cX5_goneFrom 4 s args RX5 meth) (hr : meth.sig.returnType = (some .int)) (hf : fX5_goneFrom nf T N I R x0 x1 = some (ro, Io)) (V : Iv D dA s0 s T N Z I L R H locs) (hl : lv_has ls 4 [(0, .ref x0), (1, .int x1)]) : W p l e { frames := 0, cells := 0, slots := 0, locals := 0 } s m args below meth c H locs 0 0 (MQ below (xQ D dA s0 (some (.int ro)) T N Z Io L R) args s 0 0 (fun q => s0 ≤ q)) (F0 m 0 ls []) := by
  have hx := X.1.1
  have hb := X.1.2.1
  unfold fX5_goneFrom at hf
  refine lv_iconst (pc := 0) (v := (ii 0)) hx hb dX5_goneFrom_0 (by decide) ?_
  refine lv_istore_n (pc := 1) (lv' := [(2, .int (ii 0)), (0, .ref x0), (1, .int x1)]) hx hb dX5_goneFrom_1 rfl hl (by decide) rfl (fun ls hl => ?_)
  exact wX5_goneFrom_b2 X hr nf hf V (lv_sub hl [1, 2, 0] rfl)
theorem mX5_goneFrom {nf : Nat} (l : Launch) (D : va_G) (dA : Nat → ClassId) (s0 : Nat) {T : xT} {N : xT} {Z : Nat} {I : xI} {L : xL} {R : xR} {x0 : Nat} {x1 : Int32} {ro : Int32} {Io : xI} (hf : fX5_goneFrom nf T N I R x0 x1 = some (ro, Io)) : XMet l D dA s0 yX5_goneFrom (ws_ yX5_goneFrom cX5_goneFrom 4 ((some .int))) (0) (0) [.ref x0, .int x1] T N Z I L R (some (.int ro)) T N Z Io L R 0 0 :=
  x_start (own := RX5) rfl (by decide) (Nat.le_of_ble_eq_true rfl) (lv := [(0, .ref x0), (1, .int x1)]) rfl (fun p e s m below meth c ls X hr hini V hl => wX5_goneFrom_e X hr hf V hl)
