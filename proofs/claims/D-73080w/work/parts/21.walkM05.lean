set_option maxHeartbeats 400000 in
set_option maxRecDepth 100000 in
theorem wX5_isLaw_e {p : Program} {l : Launch} {e : Env} {s : State} {m : MethodId} {args : Array Value} {below : List Frame} {meth : Method} {c : Code} {D : va_G} {dA : Nat → ClassId} {s0 : Nat} {T : xT} {N : xT} {Z : Nat} {I : xI} {L : xL} {R : xR} {H : Heap} {locs : List Loc} {ls : Array Slot} {x0 : Nat} {x1 : Int32} {ro : Int32} (X : Cx D dA s0 p m c cX5_isLaw 2 s args RX5 meth) (hr : meth.sig.returnType = (some .boolean)) (hf : fX5_isLaw T N I R x0 x1 = some ro) (V : Iv D dA s0 s T N Z I L R H locs) (hl : lv_has ls 2 [(0, .ref x0), (1, .int x1)]) : W p l e { frames := 1, cells := 0, slots := 0, locals := 25 } s m args below meth c H locs 0 0 (MQ below (xQ D dA s0 (some (.int ro)) T N Z I L R) args s 0 0 (fun q => s0 ≤ q)) (F0 m 0 ls []) := by
  have hx := X.1.1
  have hb := X.1.2.1
  unfold fX5_isLaw at hf
  refine lv_iload_n (pc := 0) hx hb dX5_isLaw_0 rfl (lv_at hl 1 rfl) ?_
  refine lv_iconst (pc := 1) (v := (-1 : Int32)) hx hb dX5_isLaw_1 (by decide) ?_
  refine lv_icmp_eq (pc := 2) (tgt := 23) hx hb dX5_isLaw_2 (by decide) (fun c1 => ?_) (fun c1 => ?_)
  · replace hf := if_t hf c1
    refine lv_iconst (pc := 23) (v := (ii 1)) hx hb dX5_isLaw_23 (by decide) ?_
    refine lv_goto (pc := 24) (tgt := 28) hx hb dX5_isLaw_24 (by decide) ?_
    cases hf
    exact x_zret (pc := 28) X V hr (by decide) dX5_isLaw_28
  · replace hf := if_f hf c1
    refine lv_iload_n (pc := 5) hx hb dX5_isLaw_5 rfl (lv_at hl 1 rfl) ?_
    refine lv_i2l (pc := 6) hx hb dX5_isLaw_6 rfl ?_
    refine lv_lconst (pc := 7) (v := (jj 0)) hx hb dX5_isLaw_7 (by decide) ?_
    refine lv_aload_n (pc := 8) hx hb dX5_isLaw_8 rfl (lv_at hl 0 rfl) ?_
    replace hf := tg_s hf; obtain ⟨ht2, hf⟩ := hf
    replace hf := bs hf; obtain ⟨a3, ha3, hf⟩ := hf
    refine x_get (pc := 9) X V okX5 ht2 3 (by decide) q1524 (v := va_rf (R x0 3)) rfl dX5_isLaw_9 ?_
    refine x_topr ha3 ?_
    refine lv_iconst (pc := 12) (v := (ii 3)) hx hb dX5_isLaw_12 (by decide) ?_
    replace hf := rA_s hf; obtain ⟨j4, hjj4, htj4, hij4, hf⟩ := hf
    refine x_iald (pc := 13) X V htj4 hij4 hjj4 dX5_isLaw_13 ?_
    refine lv_i2l (pc := 14) hx hb dX5_isLaw_14 rfl ?_
    refine lv_lconst (pc := 15) (v := (jj 1)) hx hb dX5_isLaw_15 (by decide) ?_
    refine lv_lsub (pc := 16) hx hb dX5_isLaw_16 ?_
    replace hf := bs hf; obtain ⟨r5, hk_6, hf⟩ := hf
    refine x_callS0 (pc := 17) (As := [.long ((x1).toInt64), .long (jj 0), .long ((((I a3 j4)).toInt64) - (jj 1))]) (rest := []) X V (mX5_in l D dA s0 hk_6) q1713 q1714 q129 q1715 hsX5_in ⟨Nat.le_of_ble_eq_true rfl, Nat.le_of_ble_eq_true rfl⟩ rfl hl.1 rfl (Nat.le_of_ble_eq_true rfl) dX5_isLaw_17 ⟨Nat.zero_le _, Nat.zero_le _⟩ (fun H locs V => W.eq (g2 := F0 m 20 ls [.int r5]) rfl ?_)
    refine lv_if_eq (pc := 20) (tgt := 27) hx hb dX5_isLaw_20 (by decide) (fun c7 => ?_) (fun c7 => ?_)
    · replace hf := if_t hf c7
      refine lv_iconst (pc := 27) (v := (ii 0)) hx hb dX5_isLaw_27 (by decide) ?_
      cases hf
      exact x_zret (pc := 28) X V hr (by decide) dX5_isLaw_28
    · replace hf := if_f hf c7
      refine lv_iconst (pc := 23) (v := (ii 1)) hx hb dX5_isLaw_23 (by decide) ?_
      refine lv_goto (pc := 24) (tgt := 28) hx hb dX5_isLaw_24 (by decide) ?_
      cases hf
      exact x_zret (pc := 28) X V hr (by decide) dX5_isLaw_28
theorem mX5_isLaw (l : Launch) (D : va_G) (dA : Nat → ClassId) (s0 : Nat) {T : xT} {N : xT} {Z : Nat} {I : xI} {L : xL} {R : xR} {x0 : Nat} {x1 : Int32} {ro : Int32} (hf : fX5_isLaw T N I R x0 x1 = some ro) : XMet l D dA s0 yX5_isLaw (ws_ yX5_isLaw cX5_isLaw 2 ((some .boolean))) (1) (25) [.ref x0, .int x1] T N Z I L R (some (.int ro)) T N Z I L R 0 0 :=
  x_start (own := RX5) rfl (by decide) (Nat.le_of_ble_eq_true rfl) (lv := [(0, .ref x0), (1, .int x1)]) rfl (fun p e s m below meth c ls X hr hini V hl => wX5_isLaw_e X hr hf V hl)
set_option maxHeartbeats 400000 in
set_option maxRecDepth 100000 in
theorem wX5_force_e {p : Program} {l : Launch} {e : Env} {s : State} {m : MethodId} {args : Array Value} {below : List Frame} {meth : Method} {c : Code} {D : va_G} {dA : Nat → ClassId} {s0 : Nat} {T : xT} {N : xT} {Z : Nat} {I : xI} {L : xL} {R : xR} {H : Heap} {locs : List Loc} {ls : Array Slot} {x0 : Nat} {x1 : Int32} {ro : Int32} {Io : xI} (X : Cx D dA s0 p m c cX5_force 2 s args RX5 meth) (hr : meth.sig.returnType = (some .int)) (hf : fX5_force T N I R x0 x1 = some (ro, Io)) (V : Iv D dA s0 s T N Z I L R H locs) (hl : lv_has ls 2 [(0, .ref x0), (1, .int x1)]) : W p l e { frames := 2, cells := 0, slots := 0, locals := 46 } s m args below meth c H locs 0 0 (MQ below (xQ D dA s0 (some (.int ro)) T N Z Io L R) args s 0 0 (fun q => s0 ≤ q)) (F0 m 0 ls []) := by
  have hx := X.1.1
  have hb := X.1.2.1
  unfold fX5_force at hf
  refine lv_aload_n (pc := 0) hx hb dX5_force_0 rfl (lv_at hl 0 rfl) ?_
  refine lv_iconst (pc := 1) (v := (ii 0)) hx hb dX5_force_1 (by decide) ?_
  replace hf := tg_s hf; obtain ⟨ht1, hf⟩ := hf
  replace hf := nm_s hf; obtain ⟨I2, hI2, hf⟩ := hf
  refine x_puti (pc := 2) X V okX5 (by decide) ht1 0 (by decide) q1521 (Or.inl rfl) hI2 (fun _ _ _ => rfl) rfl rfl dX5_force_2 (fun H locs V => ?_)
  refine lv_aload_n (pc := 5) hx hb dX5_force_5 rfl (lv_at hl 0 rfl) ?_
  refine lv_iload_n (pc := 6) hx hb dX5_force_6 rfl (lv_at hl 1 rfl) ?_
  replace hf := bs hf; obtain ⟨r3, hk_4, hf⟩ := hf
  refine x_callV0 (pc := 7) (As := [.int x1]) (rest := []) X V (mX5_isLaw l D dA s0 hk_4) okX5 ht1 q1965 q1967 qs86 q129 q1968 ⟨rfl, hsX5_isLaw⟩ ⟨Nat.le_of_ble_eq_true rfl, Nat.le_of_ble_eq_true rfl⟩ rfl hl.1 rfl (Nat.le_of_ble_eq_true rfl) dX5_force_7 ⟨Nat.zero_le _, Nat.zero_le _⟩ (fun H locs V => W.eq (g2 := F0 m 10 ls [.int r3]) rfl ?_)
  refine lv_if_eq (pc := 10) (tgt := 22) hx hb dX5_force_10 (by decide) (fun c5 => ?_) (fun c5 => ?_)
  · replace hf := if_t hf c5
    refine lv_aload_n (pc := 22) hx hb dX5_force_22 rfl (lv_at hl 0 rfl) ?_
    refine lv_bipush (pc := 23) (v := (-2 : Int32)) hx hb dX5_force_23 (by decide) ?_
    replace hf := b2s hf; obtain ⟨r6, I7, hk_8, hf⟩ := hf
    refine x_callV0 (pc := 25) (As := [.int (-2 : Int32)]) (rest := []) X V (mX5_tell l D dA s0 hk_8) okX5 ht1 q1701 q1703 qs45 q129 q1704 ⟨rfl, hsX5_tell⟩ ⟨Nat.le_of_ble_eq_true rfl, Nat.le_of_ble_eq_true rfl⟩ rfl hl.1 rfl (Nat.le_of_ble_eq_true rfl) dX5_force_25 ⟨Nat.zero_le _, Nat.zero_le _⟩ (fun H locs V => W.eq (g2 := F0 m 28 ls [.int r6]) rfl ?_)
    cases hf
    exact x_iret (pc := 28) X V hr dX5_force_28
  · replace hf := if_f hf c5
    refine lv_aload_n (pc := 13) hx hb dX5_force_13 rfl (lv_at hl 0 rfl) ?_
    refine lv_iconst (pc := 14) (v := (ii 4)) hx hb dX5_force_14 (by decide) ?_
    refine lv_iload_n (pc := 15) hx hb dX5_force_15 rfl (lv_at hl 1 rfl) ?_
    replace hf := b2s hf; obtain ⟨r9, I10, hk_11, hf⟩ := hf
    refine x_callV0 (pc := 16) (As := [.int (ii 4), .int x1]) (rest := []) X V (mX5_change l D dA s0 hk_11) okX5 ht1 q1814 q1816 qs61 q129 q1817 ⟨rfl, hsX5_change⟩ ⟨Nat.le_of_ble_eq_true rfl, Nat.le_of_ble_eq_true rfl⟩ rfl hl.1 rfl (Nat.le_of_ble_eq_true rfl) dX5_force_16 ⟨Nat.zero_le _, Nat.zero_le _⟩ (fun H locs V => W.eq (g2 := F0 m 19 ls [.int r9]) rfl ?_)
    refine lv_goto (pc := 19) (tgt := 28) hx hb dX5_force_19 (by decide) ?_
    cases hf
    exact x_iret (pc := 28) X V hr dX5_force_28
theorem mX5_force (l : Launch) (D : va_G) (dA : Nat → ClassId) (s0 : Nat) {T : xT} {N : xT} {Z : Nat} {I : xI} {L : xL} {R : xR} {x0 : Nat} {x1 : Int32} {ro : Int32} {Io : xI} (hf : fX5_force T N I R x0 x1 = some (ro, Io)) : XMet l D dA s0 yX5_force (ws_ yX5_force cX5_force 2 ((some .int))) (2) (46) [.ref x0, .int x1] T N Z I L R (some (.int ro)) T N Z Io L R 0 0 :=
  x_start (own := RX5) rfl (by decide) (Nat.le_of_ble_eq_true rfl) (lv := [(0, .ref x0), (1, .int x1)]) rfl (fun p e s m below meth c ls X hr hini V hl => wX5_force_e X hr hf V hl)
set_option maxHeartbeats 400000 in
set_option maxRecDepth 100000 in
theorem wX5_keepAll_b2 {nf : Nat} {p : Program} {l : Launch} {e : Env} {s : State} {m : MethodId} {args : Array Value} {below : List Frame} {meth : Method} {c : Code} {D : va_G} {dA : Nat → ClassId} {s0 : Nat} {T : xT} {N : xT} {Z : Nat} {L : xL} {R : xR}  {Io : xI} (X : Cx D dA s0 p m c cX5_keepAll 3 s args RX5 meth) (hr : meth.sig.returnType = none)   (k : Nat) : ∀ {I : xI} {x0 : Nat} {x1 : Int32} {x2 : Int32} {H : Heap} {locs : List Loc} {ls : Array Slot} , fX5_keepAll_b2 nf T N R k I x0 x1 x2 = some Io → Iv D dA s0 s T N Z I L R H locs → lv_has ls 3 [(0, .ref x0), (1, .int x1), (2, .int x2)] → W p l e { frames := 0, cells := 0, slots := 0, locals := 0 } s m args below meth c H locs 0 0 (MQ below (xQ D dA s0 none T N Z Io L R) args s 0 0 (fun q => s0 ≤ q)) (F0 m 2 ls []) := by
  have hx := X.1.1
  have hb := X.1.2.1
  induction k with
  | zero =>
    intro I x0 x1 x2 H locs ls hf V hl
    exact absurd (show none = some _ from hf) (fun q => nomatch q)
  | succ k ih =>
    intro I x0 x1 x2 H locs ls hf V hl
    rw [fX5_keepAll_b2] at hf
    refine lv_iload_n (pc := 2) hx hb dX5_keepAll_2 rfl (lv_at hl 2 rfl) ?_
    refine lv_bipush (pc := 3) (v := (ii 21)) hx hb dX5_keepAll_3 (by decide) ?_
    refine lv_icmp_ge (pc := 5) (tgt := 33) hx hb dX5_keepAll_5 (by decide) (fun c1 => ?_) (fun c1 => ?_)
    · replace hf := if_t hf c1
      cases hf
      exact x_vret (pc := 33) X V hr dX5_keepAll_33
    · replace hf := if_f hf c1
      refine lv_aload_n (pc := 8) hx hb dX5_keepAll_8 rfl (lv_at hl 0 rfl) ?_
      replace hf := tg_s hf; obtain ⟨ht2, hf⟩ := hf
      replace hf := bs hf; obtain ⟨a3, ha3, hf⟩ := hf
      refine x_get (pc := 9) X V okX5 ht2 6 (by decide) q1527 (v := va_rf (R x0 6)) rfl dX5_keepAll_9 ?_
      refine x_topr ha3 ?_
      refine lv_bipush (pc := 12) (v := (ii 21)) hx hb dX5_keepAll_12 (by decide) ?_
      refine lv_iload_n (pc := 14) hx hb dX5_keepAll_14 rfl (lv_at hl 1 rfl) ?_
      refine lv_imul (pc := 15) hx hb dX5_keepAll_15 ?_
      refine lv_iload_n (pc := 16) hx hb dX5_keepAll_16 rfl (lv_at hl 2 rfl) ?_
      refine lv_iadd (pc := 17) hx hb dX5_keepAll_17 ?_
      refine lv_aload_n (pc := 18) hx hb dX5_keepAll_18 rfl (lv_at hl 0 rfl) ?_
      replace hf := bs hf; obtain ⟨a4, ha4, hf⟩ := hf
      refine x_get (pc := 19) X V okX5 ht2 3 (by decide) q1524 (v := va_rf (R x0 3)) rfl dX5_keepAll_19 ?_
      refine x_topr ha4 ?_
      refine lv_iconst (pc := 22) (v := (ii 5)) hx hb dX5_keepAll_22 (by decide) ?_
      refine lv_iload_n (pc := 23) hx hb dX5_keepAll_23 rfl (lv_at hl 2 rfl) ?_
      refine lv_iadd (pc := 24) hx hb dX5_keepAll_24 ?_
      replace hf := rA_s hf; obtain ⟨j5, hjj5, htj5, hij5, hf⟩ := hf
      refine x_iald (pc := 25) X V htj5 hij5 hjj5 dX5_keepAll_25 ?_
      replace hf := rA_s hf; obtain ⟨j6, hjj6, htj6, hij6, hf⟩ := hf
      replace hf := nm_s hf; obtain ⟨I7, hI7, hf⟩ := hf
      refine x_iast (pc := 26) X V htj6 hij6 hjj6 hI7 dX5_keepAll_26 (fun H locs V => ?_)
      replace hf := nm_s hf; obtain ⟨u8, hu8, hf⟩ := hf
      refine lv_iinc (pc := 27) (v := u8) (lv' := [(2, .int u8), (0, .ref x0), (1, .int x1)]) hx hb dX5_keepAll_27 hl (k := 2) rfl (by rw [hu8]; rfl) (by decide) rfl (fun ls hl => ?_)
      refine lv_goto (pc := 30) (tgt := 2) hx hb dX5_keepAll_30 (by decide) ?_
      exact ih hf V (lv_sub hl [1, 2, 0] rfl)
set_option maxHeartbeats 400000 in
set_option maxRecDepth 100000 in
theorem wX5_keepAll_e {nf : Nat} {p : Program} {l : Launch} {e : Env} {s : State} {m : MethodId} {args : Array Value} {below : List Frame} {meth : Method} {c : Code} {D : va_G} {dA : Nat → ClassId} {s0 : Nat} {T : xT} {N : xT} {Z : Nat} {I : xI} {L : xL} {R : xR} {H : Heap} {locs : List Loc} {ls : Array Slot} {x0 : Nat} {x1 : Int32} {Io : xI} (X : Cx D dA s0 p m c cX5_keepAll 3 s args RX5 meth) (hr : meth.sig.returnType = none) (hf : fX5_keepAll nf T N I R x0 x1 = some Io) (V : Iv D dA s0 s T N Z I L R H locs) (hl : lv_has ls 3 [(0, .ref x0), (1, .int x1)]) : W p l e { frames := 0, cells := 0, slots := 0, locals := 0 } s m args below meth c H locs 0 0 (MQ below (xQ D dA s0 none T N Z Io L R) args s 0 0 (fun q => s0 ≤ q)) (F0 m 0 ls []) := by
  have hx := X.1.1
  have hb := X.1.2.1
  unfold fX5_keepAll at hf
  refine lv_iconst (pc := 0) (v := (ii 0)) hx hb dX5_keepAll_0 (by decide) ?_
  refine lv_istore_n (pc := 1) (lv' := [(2, .int (ii 0)), (0, .ref x0), (1, .int x1)]) hx hb dX5_keepAll_1 rfl hl (by decide) rfl (fun ls hl => ?_)
  exact wX5_keepAll_b2 X hr nf hf V (lv_sub hl [1, 2, 0] rfl)
theorem mX5_keepAll {nf : Nat} (l : Launch) (D : va_G) (dA : Nat → ClassId) (s0 : Nat) {T : xT} {N : xT} {Z : Nat} {I : xI} {L : xL} {R : xR} {x0 : Nat} {x1 : Int32} {Io : xI} (hf : fX5_keepAll nf T N I R x0 x1 = some Io) : XMet l D dA s0 yX5_keepAll (ws_ yX5_keepAll cX5_keepAll 3 (none)) (0) (0) [.ref x0, .int x1] T N Z I L R none T N Z Io L R 0 0 :=
  x_start (own := RX5) rfl (by decide) (Nat.le_of_ble_eq_true rfl) (lv := [(0, .ref x0), (1, .int x1)]) rfl (fun p e s m below meth c ls X hr hini V hl => wX5_keepAll_e X hr hf V hl)
set_option maxHeartbeats 400000 in
set_option maxRecDepth 100000 in
theorem wX5_remember_b77 {nf : Nat} {p : Program} {l : Launch} {e : Env} {s : State} {m : MethodId} {args : Array Value} {below : List Frame} {meth : Method} {c : Code} {D : va_G} {dA : Nat → ClassId} {s0 : Nat} {T : xT} {N : xT} {Z : Nat} {I : xI} {L : xL} {R : xR} {H : Heap} {locs : List Loc} {ls : Array Slot}  {x0 : Nat} {x1 : Int32} {Io : xI} (X : Cx D dA s0 p m c cX5_remember 3 s args RX5 meth) (hr : meth.sig.returnType = none)   (hf : fX5_remember_b77 nf T N I R x0 x1 = some Io) (V : Iv D dA s0 s T N Z I L R H locs) (hl : lv_has ls 3 [(0, .ref x0), (1, .int x1)]) : W p l e { frames := 1, cells := 0, slots := 0, locals := 22 } s m args below meth c H locs 0 0 (MQ below (xQ D dA s0 none T N Z Io L R) args s 0 0 (fun q => s0 ≤ q)) (F0 m 77 ls []) := by
  have hx := X.1.1
  have hb := X.1.2.1
  unfold fX5_remember_b77 at hf
  refine lv_aload_n (pc := 77) hx hb dX5_remember_77 rfl (lv_at hl 0 rfl) ?_
  refine lv_aload_n (pc := 78) hx hb dX5_remember_78 rfl (lv_at hl 0 rfl) ?_
  replace hf := tg_s hf; obtain ⟨ht1, hf⟩ := hf
  refine x_get (pc := 79) X V okX5 ht1 8 (by decide) q1529 (v := .int (I x0 8)) rfl dX5_remember_79 ?_
  replace hf := bs hf; obtain ⟨I2, hk_3, hf⟩ := hf
  refine x_callV0 (pc := 82) (As := [.int (I x0 8)]) (rest := []) X V (mX5_keepAll l D dA s0 hk_3) okX5 ht1 q1981 q1983 qs89 q129 q1984 ⟨rfl, hsX5_keepAll⟩ ⟨Nat.le_of_ble_eq_true rfl, Nat.le_of_ble_eq_true rfl⟩ rfl hl.1 rfl (Nat.le_of_ble_eq_true rfl) dX5_remember_82 ⟨Nat.zero_le _, Nat.zero_le _⟩ (fun H locs V => W.eq (g2 := F0 m 85 ls []) rfl ?_)
  refine lv_aload_n (pc := 85) hx hb dX5_remember_85 rfl (lv_at hl 0 rfl) ?_
  replace hf := bs hf; obtain ⟨a4, ha4, hf⟩ := hf
  refine x_get (pc := 86) X V okX5 ht1 7 (by decide) q1528 (v := va_rf (R x0 7)) rfl dX5_remember_86 ?_
  refine x_topr ha4 ?_
  refine lv_aload_n (pc := 89) hx hb dX5_remember_89 rfl (lv_at hl 0 rfl) ?_
  refine x_get (pc := 90) X V okX5 ht1 8 (by decide) q1529 (v := .int (I2 x0 8)) rfl dX5_remember_90 ?_
  refine lv_iload_n (pc := 93) hx hb dX5_remember_93 rfl (lv_at hl 1 rfl) ?_
  replace hf := rA_s hf; obtain ⟨j5, hjj5, htj5, hij5, hf⟩ := hf
  replace hf := nm_s hf; obtain ⟨I6, hI6, hf⟩ := hf
  refine x_iast (pc := 94) X V htj5 hij5 hjj5 hI6 dX5_remember_94 (fun H locs V => ?_)
  refine lv_aload_n (pc := 95) hx hb dX5_remember_95 rfl (lv_at hl 0 rfl) ?_
  refine lv_dup (pc := 96) hx hb dX5_remember_96 rfl ?_
  refine x_get (pc := 97) X V okX5 ht1 8 (by decide) q1529 (v := .int (I6 x0 8)) rfl dX5_remember_97 ?_
  refine lv_iconst (pc := 100) (v := (ii 1)) hx hb dX5_remember_100 (by decide) ?_
  refine lv_iadd (pc := 101) hx hb dX5_remember_101 ?_
  replace hf := nm_s hf; obtain ⟨I7, hI7, hf⟩ := hf
  refine x_puti (pc := 102) X V okX5 (by decide) ht1 8 (by decide) q1529 (Or.inl rfl) hI7 (fun _ _ _ => rfl) rfl rfl dX5_remember_102 (fun H locs V => ?_)
  cases hf
  exact x_vret (pc := 105) X V hr dX5_remember_105
set_option maxHeartbeats 400000 in
set_option maxRecDepth 100000 in
theorem wX5_remember_b41 {nf : Nat} {p : Program} {l : Launch} {e : Env} {s : State} {m : MethodId} {args : Array Value} {below : List Frame} {meth : Method} {c : Code} {D : va_G} {dA : Nat → ClassId} {s0 : Nat} {T : xT} {N : xT} {Z : Nat} {L : xL} {R : xR}  {Io : xI} (X : Cx D dA s0 p m c cX5_remember 3 s args RX5 meth) (hr : meth.sig.returnType = none)   (k : Nat) : ∀ {I : xI} {x0 : Nat} {x1 : Int32} {x2 : Int32} {H : Heap} {locs : List Loc} {ls : Array Slot} , fX5_remember_b41 nf T N R k I x0 x1 x2 = some Io → Iv D dA s0 s T N Z I L R H locs → lv_has ls 3 [(0, .ref x0), (1, .int x1), (2, .int x2)] → W p l e { frames := 1, cells := 0, slots := 0, locals := 22 } s m args below meth c H locs 0 0 (MQ below (xQ D dA s0 none T N Z Io L R) args s 0 0 (fun q => s0 ≤ q)) (F0 m 41 ls []) := by
  have hx := X.1.1
  have hb := X.1.2.1
  induction k with
  | zero =>
    intro I x0 x1 x2 H locs ls hf V hl
    exact absurd (show none = some _ from hf) (fun q => nomatch q)
  | succ k ih =>
    intro I x0 x1 x2 H locs ls hf V hl
    rw [fX5_remember_b41] at hf
    refine lv_iload_n (pc := 41) hx hb dX5_remember_41 rfl (lv_at hl 2 rfl) ?_
    refine lv_bipush (pc := 42) (v := (ii 15)) hx hb dX5_remember_42 (by decide) ?_
    refine lv_icmp_ge (pc := 44) (tgt := 67) hx hb dX5_remember_44 (by decide) (fun c1 => ?_) (fun c1 => ?_)
    · replace hf := if_t hf c1
      refine lv_aload_n (pc := 67) hx hb dX5_remember_67 rfl (lv_at hl 0 rfl) ?_
      refine lv_dup (pc := 68) hx hb dX5_remember_68 rfl ?_
      replace hf := tg_s hf; obtain ⟨ht2, hf⟩ := hf
      refine x_get (pc := 69) X V okX5 ht2 8 (by decide) q1529 (v := .int (I x0 8)) rfl dX5_remember_69 ?_
      refine lv_iconst (pc := 72) (v := (ii 1)) hx hb dX5_remember_72 (by decide) ?_
      refine lv_isub (pc := 73) hx hb dX5_remember_73 ?_
      replace hf := nm_s hf; obtain ⟨I3, hI3, hf⟩ := hf
      refine x_puti (pc := 74) X V okX5 (by decide) ht2 8 (by decide) q1529 (Or.inl rfl) hI3 (fun _ _ _ => rfl) rfl rfl dX5_remember_74 (fun H locs V => ?_)
      exact wX5_remember_b77 X hr hf V (lv_sub hl [0, 1] rfl)
    · replace hf := if_f hf c1
      refine lv_aload_n (pc := 47) hx hb dX5_remember_47 rfl (lv_at hl 0 rfl) ?_
      replace hf := tg_s hf; obtain ⟨ht4, hf⟩ := hf
      replace hf := bs hf; obtain ⟨a5, ha5, hf⟩ := hf
      refine x_get (pc := 48) X V okX5 ht4 7 (by decide) q1528 (v := va_rf (R x0 7)) rfl dX5_remember_48 ?_
      refine x_topr ha5 ?_
      refine lv_iload_n (pc := 51) hx hb dX5_remember_51 rfl (lv_at hl 2 rfl) ?_
      refine lv_aload_n (pc := 52) hx hb dX5_remember_52 rfl (lv_at hl 0 rfl) ?_
      refine x_get (pc := 53) X V okX5 ht4 7 (by decide) q1528 (v := va_rf (R x0 7)) rfl dX5_remember_53 ?_
      refine x_topr ha5 ?_
      refine lv_iload_n (pc := 56) hx hb dX5_remember_56 rfl (lv_at hl 2 rfl) ?_
      refine lv_iconst (pc := 57) (v := (ii 1)) hx hb dX5_remember_57 (by decide) ?_
      refine lv_iadd (pc := 58) hx hb dX5_remember_58 ?_
      replace hf := rA_s hf; obtain ⟨j6, hjj6, htj6, hij6, hf⟩ := hf
      refine x_iald (pc := 59) X V htj6 hij6 hjj6 dX5_remember_59 ?_
      replace hf := rA_s hf; obtain ⟨j7, hjj7, htj7, hij7, hf⟩ := hf
      replace hf := nm_s hf; obtain ⟨I8, hI8, hf⟩ := hf
      refine x_iast (pc := 60) X V htj7 hij7 hjj7 hI8 dX5_remember_60 (fun H locs V => ?_)
      replace hf := nm_s hf; obtain ⟨u9, hu9, hf⟩ := hf
      refine lv_iinc (pc := 61) (v := u9) (lv' := [(2, .int u9), (0, .ref x0), (1, .int x1)]) hx hb dX5_remember_61 hl (k := 2) rfl (by rw [hu9]; rfl) (by decide) rfl (fun ls hl => ?_)
      refine lv_goto (pc := 64) (tgt := 41) hx hb dX5_remember_64 (by decide) ?_
      exact ih hf V (lv_sub hl [1, 2, 0] rfl)
set_option maxHeartbeats 400000 in
set_option maxRecDepth 100000 in
theorem wX5_remember_b11 {nf : Nat} {p : Program} {l : Launch} {e : Env} {s : State} {m : MethodId} {args : Array Value} {below : List Frame} {meth : Method} {c : Code} {D : va_G} {dA : Nat → ClassId} {s0 : Nat} {T : xT} {N : xT} {Z : Nat} {L : xL} {R : xR}  {Io : xI} (X : Cx D dA s0 p m c cX5_remember 3 s args RX5 meth) (hr : meth.sig.returnType = none)   (k : Nat) : ∀ {I : xI} {x0 : Nat} {x1 : Int32} {x2 : Int32} {H : Heap} {locs : List Loc} {ls : Array Slot} , fX5_remember_b11 nf T N R k I x0 x1 x2 = some Io → Iv D dA s0 s T N Z I L R H locs → lv_has ls 3 [(0, .ref x0), (1, .int x1), (2, .int x2)] → W p l e { frames := 1, cells := 0, slots := 0, locals := 22 } s m args below meth c H locs 0 0 (MQ below (xQ D dA s0 none T N Z Io L R) args s 0 0 (fun q => s0 ≤ q)) (F0 m 11 ls []) := by
  have hx := X.1.1
  have hb := X.1.2.1
  induction k with
  | zero =>
    intro I x0 x1 x2 H locs ls hf V hl
    exact absurd (show none = some _ from hf) (fun q => nomatch q)
  | succ k ih =>
    intro I x0 x1 x2 H locs ls hf V hl
    rw [fX5_remember_b11] at hf
    refine lv_iload_n (pc := 11) hx hb dX5_remember_11 rfl (lv_at hl 2 rfl) ?_
    refine lv_sipush (pc := 12) (v := (ii 315)) hx hb dX5_remember_12 (by decide) ?_
    refine lv_icmp_ge (pc := 15) (tgt := 39) hx hb dX5_remember_15 (by decide) (fun c1 => ?_) (fun c1 => ?_)
    · replace hf := if_t hf c1
      refine lv_iconst (pc := 39) (v := (ii 0)) hx hb dX5_remember_39 (by decide) ?_
      refine lv_istore_n (pc := 40) (lv' := [(2, .int (ii 0)), (0, .ref x0), (1, .int x1)]) hx hb dX5_remember_40 rfl hl (by decide) rfl (fun ls hl => ?_)
      exact wX5_remember_b41 X hr nf hf V (lv_sub hl [1, 2, 0] rfl)
    · replace hf := if_f hf c1
      refine lv_aload_n (pc := 18) hx hb dX5_remember_18 rfl (lv_at hl 0 rfl) ?_
      replace hf := tg_s hf; obtain ⟨ht2, hf⟩ := hf
      replace hf := bs hf; obtain ⟨a3, ha3, hf⟩ := hf
      refine x_get (pc := 19) X V okX5 ht2 6 (by decide) q1527 (v := va_rf (R x0 6)) rfl dX5_remember_19 ?_
      refine x_topr ha3 ?_
      refine lv_iload_n (pc := 22) hx hb dX5_remember_22 rfl (lv_at hl 2 rfl) ?_
      refine lv_aload_n (pc := 23) hx hb dX5_remember_23 rfl (lv_at hl 0 rfl) ?_
      refine x_get (pc := 24) X V okX5 ht2 6 (by decide) q1527 (v := va_rf (R x0 6)) rfl dX5_remember_24 ?_
      refine x_topr ha3 ?_
      refine lv_iload_n (pc := 27) hx hb dX5_remember_27 rfl (lv_at hl 2 rfl) ?_
      refine lv_bipush (pc := 28) (v := (ii 21)) hx hb dX5_remember_28 (by decide) ?_
      refine lv_iadd (pc := 30) hx hb dX5_remember_30 ?_
      replace hf := rA_s hf; obtain ⟨j4, hjj4, htj4, hij4, hf⟩ := hf
      refine x_iald (pc := 31) X V htj4 hij4 hjj4 dX5_remember_31 ?_
      replace hf := rA_s hf; obtain ⟨j5, hjj5, htj5, hij5, hf⟩ := hf
      replace hf := nm_s hf; obtain ⟨I6, hI6, hf⟩ := hf
      refine x_iast (pc := 32) X V htj5 hij5 hjj5 hI6 dX5_remember_32 (fun H locs V => ?_)
      replace hf := nm_s hf; obtain ⟨u7, hu7, hf⟩ := hf
      refine lv_iinc (pc := 33) (v := u7) (lv' := [(2, .int u7), (0, .ref x0), (1, .int x1)]) hx hb dX5_remember_33 hl (k := 2) rfl (by rw [hu7]; rfl) (by decide) rfl (fun ls hl => ?_)
      refine lv_goto (pc := 36) (tgt := 11) hx hb dX5_remember_36 (by decide) ?_
      exact ih hf V (lv_sub hl [1, 2, 0] rfl)
set_option maxHeartbeats 400000 in
set_option maxRecDepth 100000 in
theorem wX5_remember_e {nf : Nat} {p : Program} {l : Launch} {e : Env} {s : State} {m : MethodId} {args : Array Value} {below : List Frame} {meth : Method} {c : Code} {D : va_G} {dA : Nat → ClassId} {s0 : Nat} {T : xT} {N : xT} {Z : Nat} {I : xI} {L : xL} {R : xR} {H : Heap} {locs : List Loc} {ls : Array Slot} {x0 : Nat} {x1 : Int32} {Io : xI} (X : Cx D dA s0 p m c cX5_remember 3 s args RX5 meth) (hr : meth.sig.returnType = none) (hf : fX5_remember nf T N I R x0 x1 = some Io) (V : Iv D dA s0 s T N Z I L R H locs) (hl : lv_has ls 3 [(0, .ref x0), (1, .int x1)]) : W p l e { frames := 1, cells := 0, slots := 0, locals := 22 } s m args below meth c H locs 0 0 (MQ below (xQ D dA s0 none T N Z Io L R) args s 0 0 (fun q => s0 ≤ q)) (F0 m 0 ls []) := by
  have hx := X.1.1
  have hb := X.1.2.1
  unfold fX5_remember at hf
  refine lv_aload_n (pc := 0) hx hb dX5_remember_0 rfl (lv_at hl 0 rfl) ?_
  replace hf := tg_s hf; obtain ⟨ht1, hf⟩ := hf
  refine x_get (pc := 1) X V okX5 ht1 8 (by decide) q1529 (v := .int (I x0 8)) rfl dX5_remember_1 ?_
  refine lv_bipush (pc := 4) (v := (ii 16)) hx hb dX5_remember_4 (by decide) ?_
  refine lv_icmp_ne (pc := 6) (tgt := 77) hx hb dX5_remember_6 (by decide) (fun c2 => ?_) (fun c2 => ?_)
  · replace hf := if_f hf c2
    exact wX5_remember_b77 X hr hf V (lv_sub hl [0, 1] rfl)
  · replace hf := if_t hf c2
    refine lv_iconst (pc := 9) (v := (ii 0)) hx hb dX5_remember_9 (by decide) ?_
    refine lv_istore_n (pc := 10) (lv' := [(2, .int (ii 0)), (0, .ref x0), (1, .int x1)]) hx hb dX5_remember_10 rfl hl (by decide) rfl (fun ls hl => ?_)
    exact wX5_remember_b11 X hr nf hf V (lv_sub hl [1, 2, 0] rfl)
theorem mX5_remember {nf : Nat} (l : Launch) (D : va_G) (dA : Nat → ClassId) (s0 : Nat) {T : xT} {N : xT} {Z : Nat} {I : xI} {L : xL} {R : xR} {x0 : Nat} {x1 : Int32} {Io : xI} (hf : fX5_remember nf T N I R x0 x1 = some Io) : XMet l D dA s0 yX5_remember (ws_ yX5_remember cX5_remember 3 (none)) (1) (22) [.ref x0, .int x1] T N Z I L R none T N Z Io L R 0 0 :=
  x_start (own := RX5) rfl (by decide) (Nat.le_of_ble_eq_true rfl) (lv := [(0, .ref x0), (1, .int x1)]) rfl (fun p e s m below meth c ls X hr hini V hl => wX5_remember_e X hr hf V hl)
set_option maxHeartbeats 400000 in
set_option maxRecDepth 100000 in
theorem wX5_across_e {p : Program} {l : Launch} {e : Env} {s : State} {m : MethodId} {args : Array Value} {below : List Frame} {meth : Method} {c : Code} {D : va_G} {dA : Nat → ClassId} {s0 : Nat} {T : xT} {N : xT} {Z : Nat} {I : xI} {L : xL} {R : xR} {H : Heap} {locs : List Loc} {ls : Array Slot} {x0 : Nat} {x1 : Int32} {x2 : Int32} {ro : Int32} (X : Cx D dA s0 p m c cX5_across 3 s args RX5 meth) (hr : meth.sig.returnType = (some .int)) (hf : fX5_across T N I R x0 x1 x2 = some ro) (V : Iv D dA s0 s T N Z I L R H locs) (hl : lv_has ls 3 [(0, .ref x0), (1, .int x1), (2, .int x2)]) : W p l e { frames := 0, cells := 0, slots := 0, locals := 0 } s m args below meth c H locs 0 0 (MQ below (xQ D dA s0 (some (.int ro)) T N Z I L R) args s 0 0 (fun q => s0 ≤ q)) (F0 m 0 ls []) := by
  have hx := X.1.1
  have hb := X.1.2.1
  unfold fX5_across at hf
  refine lv_aload_n (pc := 0) hx hb dX5_across_0 rfl (lv_at hl 0 rfl) ?_
  replace hf := tg_s hf; obtain ⟨ht1, hf⟩ := hf
  replace hf := bs hf; obtain ⟨a2, ha2, hf⟩ := hf
  refine x_get (pc := 1) X V okX5 ht1 3 (by decide) q1524 (v := va_rf (R x0 3)) rfl dX5_across_1 ?_
  refine x_topr ha2 ?_
  refine lv_bipush (pc := 4) (v := (ii 26)) hx hb dX5_across_4 (by decide) ?_
  refine lv_iload_n (pc := 6) hx hb dX5_across_6 rfl (lv_at hl 1 rfl) ?_
  refine lv_iadd (pc := 7) hx hb dX5_across_7 ?_
  replace hf := rA_s hf; obtain ⟨j3, hjj3, htj3, hij3, hf⟩ := hf
  refine x_iald (pc := 8) X V htj3 hij3 hjj3 dX5_across_8 ?_
  refine lv_iload_n (pc := 9) hx hb dX5_across_9 rfl (lv_at hl 2 rfl) ?_
  refine lv_icmp_ne (pc := 10) (tgt := 25) hx hb dX5_across_10 (by decide) (fun c4 => ?_) (fun c4 => ?_)
  · replace hf := if_f hf c4
    refine lv_aload_n (pc := 25) hx hb dX5_across_25 rfl (lv_at hl 0 rfl) ?_
    refine x_get (pc := 26) X V okX5 ht1 3 (by decide) q1524 (v := va_rf (R x0 3)) rfl dX5_across_26 ?_
    refine x_topr ha2 ?_
    refine lv_bipush (pc := 29) (v := (ii 26)) hx hb dX5_across_29 (by decide) ?_
    refine lv_iload_n (pc := 31) hx hb dX5_across_31 rfl (lv_at hl 1 rfl) ?_
    refine lv_iadd (pc := 32) hx hb dX5_across_32 ?_
    refine x_iald (pc := 33) X V htj3 hij3 hjj3 dX5_across_33 ?_
    cases hf
    exact x_iret (pc := 34) X V hr dX5_across_34
  · replace hf := if_t hf c4
    refine lv_aload_n (pc := 13) hx hb dX5_across_13 rfl (lv_at hl 0 rfl) ?_
    refine x_get (pc := 14) X V okX5 ht1 3 (by decide) q1524 (v := va_rf (R x0 3)) rfl dX5_across_14 ?_
    refine x_topr ha2 ?_
    refine lv_bipush (pc := 17) (v := (ii 36)) hx hb dX5_across_17 (by decide) ?_
    refine lv_iload_n (pc := 19) hx hb dX5_across_19 rfl (lv_at hl 1 rfl) ?_
    refine lv_iadd (pc := 20) hx hb dX5_across_20 ?_
    replace hf := rA_s hf; obtain ⟨j5, hjj5, htj5, hij5, hf⟩ := hf
    refine x_iald (pc := 21) X V htj5 hij5 hjj5 dX5_across_21 ?_
    refine lv_goto (pc := 22) (tgt := 34) hx hb dX5_across_22 (by decide) ?_
    cases hf
    exact x_iret (pc := 34) X V hr dX5_across_34
theorem mX5_across (l : Launch) (D : va_G) (dA : Nat → ClassId) (s0 : Nat) {T : xT} {N : xT} {Z : Nat} {I : xI} {L : xL} {R : xR} {x0 : Nat} {x1 : Int32} {x2 : Int32} {ro : Int32} (hf : fX5_across T N I R x0 x1 x2 = some ro) : XMet l D dA s0 yX5_across (ws_ yX5_across cX5_across 3 ((some .int))) (0) (0) [.ref x0, .int x1, .int x2] T N Z I L R (some (.int ro)) T N Z I L R 0 0 :=
  x_start (own := RX5) rfl (by decide) (Nat.le_of_ble_eq_true rfl) (lv := [(0, .ref x0), (1, .int x1), (2, .int x2)]) rfl (fun p e s m below meth c ls X hr hini V hl => wX5_across_e X hr hf V hl)
set_option maxHeartbeats 400000 in
set_option maxRecDepth 100000 in
theorem wX5_goAlong_e {p : Program} {l : Launch} {e : Env} {s : State} {m : MethodId} {args : Array Value} {below : List Frame} {meth : Method} {c : Code} {D : va_G} {dA : Nat → ClassId} {s0 : Nat} {T : xT} {N : xT} {Z : Nat} {I : xI} {L : xL} {R : xR} {H : Heap} {locs : List Loc} {ls : Array Slot} {x0 : Nat} {x1 : Int32} {x2 : Int32} {Io : xI} (X : Cx D dA s0 p m c cX5_goAlong 3 s args RX5 meth) (hr : meth.sig.returnType = none) (hf : fX5_goAlong T N I R x0 x1 x2 = some Io) (V : Iv D dA s0 s T N Z I L R H locs) (hl : lv_has ls 3 [(0, .ref x0), (1, .int x1), (2, .int x2)]) : W p l e { frames := 1, cells := 0, slots := 0, locals := 22 } s m args below meth c H locs 0 0 (MQ below (xQ D dA s0 none T N Z Io L R) args s 0 0 (fun q => s0 ≤ q)) (F0 m 0 ls []) := by
  have hx := X.1.1
  have hb := X.1.2.1
  unfold fX5_goAlong at hf
  refine lv_aload_n (pc := 0) hx hb dX5_goAlong_0 rfl (lv_at hl 0 rfl) ?_
  replace hf := tg_s hf; obtain ⟨ht1, hf⟩ := hf
  replace hf := bs hf; obtain ⟨a2, ha2, hf⟩ := hf
  refine x_get (pc := 1) X V okX5 ht1 3 (by decide) q1524 (v := va_rf (R x0 3)) rfl dX5_goAlong_1 ?_
  refine x_topr ha2 ?_
  refine lv_bipush (pc := 4) (v := (ii 18)) hx hb dX5_goAlong_4 (by decide) ?_
  refine lv_iload_n (pc := 6) hx hb dX5_goAlong_6 rfl (lv_at hl 1 rfl) ?_
  refine lv_iadd (pc := 7) hx hb dX5_goAlong_7 ?_
  refine lv_aload_n (pc := 8) hx hb dX5_goAlong_8 rfl (lv_at hl 0 rfl) ?_
  refine lv_iload_n (pc := 9) hx hb dX5_goAlong_9 rfl (lv_at hl 2 rfl) ?_
  refine lv_aload_n (pc := 10) hx hb dX5_goAlong_10 rfl (lv_at hl 0 rfl) ?_
  refine x_get (pc := 11) X V okX5 ht1 3 (by decide) q1524 (v := va_rf (R x0 3)) rfl dX5_goAlong_11 ?_
  refine x_topr ha2 ?_
  refine lv_bipush (pc := 14) (v := (ii 18)) hx hb dX5_goAlong_14 (by decide) ?_
  refine lv_iload_n (pc := 16) hx hb dX5_goAlong_16 rfl (lv_at hl 1 rfl) ?_
  refine lv_iadd (pc := 17) hx hb dX5_goAlong_17 ?_
  replace hf := rA_s hf; obtain ⟨j3, hjj3, htj3, hij3, hf⟩ := hf
  refine x_iald (pc := 18) X V htj3 hij3 hjj3 dX5_goAlong_18 ?_
  replace hf := bs hf; obtain ⟨r4, hk_5, hf⟩ := hf
  refine x_callV0 (pc := 19) (As := [.int x2, .int (I a2 j3)]) (rest := [.int ((ii 18) + x1), .ref a2]) X V (mX5_across l D dA s0 hk_5) okX5 ht1 q1989 q1991 qs91 q129 q1992 ⟨rfl, hsX5_across⟩ ⟨Nat.le_of_ble_eq_true rfl, Nat.le_of_ble_eq_true rfl⟩ rfl hl.1 rfl (Nat.le_of_ble_eq_true rfl) dX5_goAlong_19 ⟨Nat.zero_le _, Nat.zero_le _⟩ (fun H locs V => W.eq (g2 := F0 m 22 ls [.int r4, .int ((ii 18) + x1), .ref a2]) rfl ?_)
  replace hf := nm_s hf; obtain ⟨I6, hI6, hf⟩ := hf
  refine x_iast (pc := 22) X V htj3 hij3 hjj3 hI6 dX5_goAlong_22 (fun H locs V => ?_)
  refine lv_aload_n (pc := 23) hx hb dX5_goAlong_23 rfl (lv_at hl 0 rfl) ?_
  refine x_get (pc := 24) X V okX5 ht1 3 (by decide) q1524 (v := va_rf (R x0 3)) rfl dX5_goAlong_24 ?_
  refine x_topr ha2 ?_
  refine lv_bipush (pc := 27) (v := (ii 22)) hx hb dX5_goAlong_27 (by decide) ?_
  refine lv_iload_n (pc := 29) hx hb dX5_goAlong_29 rfl (lv_at hl 1 rfl) ?_
  refine lv_iadd (pc := 30) hx hb dX5_goAlong_30 ?_
  refine lv_iload_n (pc := 31) hx hb dX5_goAlong_31 rfl (lv_at hl 2 rfl) ?_
  replace hf := rA_s hf; obtain ⟨j7, hjj7, htj7, hij7, hf⟩ := hf
  replace hf := nm_s hf; obtain ⟨I8, hI8, hf⟩ := hf
  refine x_iast (pc := 32) X V htj7 hij7 hjj7 hI8 dX5_goAlong_32 (fun H locs V => ?_)
  cases hf
  exact x_vret (pc := 33) X V hr dX5_goAlong_33
theorem mX5_goAlong (l : Launch) (D : va_G) (dA : Nat → ClassId) (s0 : Nat) {T : xT} {N : xT} {Z : Nat} {I : xI} {L : xL} {R : xR} {x0 : Nat} {x1 : Int32} {x2 : Int32} {Io : xI} (hf : fX5_goAlong T N I R x0 x1 x2 = some Io) : XMet l D dA s0 yX5_goAlong (ws_ yX5_goAlong cX5_goAlong 3 (none)) (1) (22) [.ref x0, .int x1, .int x2] T N Z I L R none T N Z Io L R 0 0 :=
  x_start (own := RX5) rfl (by decide) (Nat.le_of_ble_eq_true rfl) (lv := [(0, .ref x0), (1, .int x1), (2, .int x2)]) rfl (fun p e s m below meth c ls X hr hini V hl => wX5_goAlong_e X hr hf V hl)
set_option maxHeartbeats 400000 in
set_option maxRecDepth 100000 in
theorem wX5_wanderNow_e {nf : Nat} {p : Program} {l : Launch} {e : Env} {s : State} {m : MethodId} {args : Array Value} {below : List Frame} {meth : Method} {c : Code} {D : va_G} {dA : Nat → ClassId} {s0 : Nat} {T : xT} {N : xT} {Z : Nat} {I : xI} {L : xL} {R : xR} {H : Heap} {locs : List Loc} {ls : Array Slot} {x0 : Nat} {x1 : Int32} {ro : Int32} {Io : xI} {Lo : xL} (X : Cx D dA s0 p m c cX5_wanderNow 3 s args RX5 meth) (hr : meth.sig.returnType = (some .int)) (hf : fX5_wanderNow nf T N I L R x0 x1 = some (ro, Io, Lo)) (V : Iv D dA s0 s T N Z I L R H locs) (hl : lv_has ls 3 [(0, .ref x0), (1, .int x1)]) : W p l e { frames := 8, cells := 0, slots := 0, locals := 191 } s m args below meth c H locs 0 0 (MQ below (xQ D dA s0 (some (.int ro)) T N Z Io Lo R) args s 0 0 (fun q => s0 ≤ q)) (F0 m 0 ls []) := by
  have hx := X.1.1
  have hb := X.1.2.1
  unfold fX5_wanderNow at hf
  refine lv_aload_n (pc := 0) hx hb dX5_wanderNow_0 rfl (lv_at hl 0 rfl) ?_
  refine lv_iload_n (pc := 1) hx hb dX5_wanderNow_1 rfl (lv_at hl 1 rfl) ?_
  replace hf := tg_s hf; obtain ⟨ht3, hf⟩ := hf
  replace hf := bs hf; obtain ⟨r1, hk_2, hf⟩ := hf
  refine x_callV0 (pc := 2) (As := [.int x1]) (rest := []) X V (mX5_isChild l D dA s0 hk_2) okX5 ht3 q1754 q1756 qs50 q129 q1757 ⟨rfl, hsX5_isChild⟩ ⟨Nat.le_of_ble_eq_true rfl, Nat.le_of_ble_eq_true rfl⟩ rfl hl.1 rfl (Nat.le_of_ble_eq_true rfl) dX5_wanderNow_2 ⟨Nat.zero_le _, Nat.zero_le _⟩ (fun H locs V => W.eq (g2 := F0 m 5 ls [.int r1]) rfl ?_)
  refine lv_if_ne (pc := 5) (tgt := 11) hx hb dX5_wanderNow_5 (by decide) (fun c4 => ?_) (fun c4 => ?_)
  · replace hf := if_f hf c4
    refine lv_aload_n (pc := 11) hx hb dX5_wanderNow_11 rfl (lv_at hl 0 rfl) ?_
    refine lv_iload_n (pc := 12) hx hb dX5_wanderNow_12 rfl (lv_at hl 1 rfl) ?_
    replace hf := b3s hf; obtain ⟨r5, I6, L7, hk_8, hf⟩ := hf
    refine x_callV0 (pc := 13) (As := [.int x1]) (rest := []) X V (mX5_laneOf l D dA s0 hk_8) okX5 ht3 q1784 q1786 qs56 q129 q1787 ⟨rfl, hsX5_laneOf⟩ ⟨Nat.le_of_ble_eq_true rfl, Nat.le_of_ble_eq_true rfl⟩ rfl hl.1 rfl (Nat.le_of_ble_eq_true rfl) dX5_wanderNow_13 ⟨Nat.zero_le _, Nat.zero_le _⟩ (fun H locs V => W.eq (g2 := F0 m 16 ls [.int r5]) rfl ?_)
    refine lv_istore_n (pc := 16) (lv' := [(2, .int r5), (0, .ref x0), (1, .int x1)]) hx hb dX5_wanderNow_16 rfl hl (by decide) rfl (fun ls hl => ?_)
    refine lv_iload_n (pc := 17) hx hb dX5_wanderNow_17 rfl (lv_at hl 0 rfl) ?_
    refine lv_iconst (pc := 18) (v := (-1 : Int32)) hx hb dX5_wanderNow_18 (by decide) ?_
    refine lv_icmp_ne (pc := 19) (tgt := 25) hx hb dX5_wanderNow_19 (by decide) (fun c9 => ?_) (fun c9 => ?_)
    · replace hf := if_f hf c9
      refine lv_aload_n (pc := 25) hx hb dX5_wanderNow_25 rfl (lv_at hl 1 rfl) ?_
      refine lv_iconst (pc := 26) (v := (ii 0)) hx hb dX5_wanderNow_26 (by decide) ?_
      replace hf := bs hf; obtain ⟨I10, hk_11, hf⟩ := hf
      refine x_callV0 (pc := 27) (As := [.int (ii 0)]) (rest := []) X V (mX5_remember l D dA s0 hk_11) okX5 ht3 q1977 q1979 qs88 q129 q1980 ⟨rfl, hsX5_remember⟩ ⟨Nat.le_of_ble_eq_true rfl, Nat.le_of_ble_eq_true rfl⟩ rfl hl.1 rfl (Nat.le_of_ble_eq_true rfl) dX5_wanderNow_27 ⟨Nat.zero_le _, Nat.zero_le _⟩ (fun H locs V => W.eq (g2 := F0 m 30 ls []) rfl ?_)
      refine lv_aload_n (pc := 30) hx hb dX5_wanderNow_30 rfl (lv_at hl 1 rfl) ?_
      refine lv_iload_n (pc := 31) hx hb dX5_wanderNow_31 rfl (lv_at hl 2 rfl) ?_
      refine lv_iload_n (pc := 32) hx hb dX5_wanderNow_32 rfl (lv_at hl 0 rfl) ?_
      replace hf := bs hf; obtain ⟨I12, hk_13, hf⟩ := hf
      refine x_callV0 (pc := 33) (As := [.int x1, .int r5]) (rest := []) X V (mX5_goAlong l D dA s0 hk_13) okX5 ht3 q1985 q1987 qs90 q129 q1988 ⟨rfl, hsX5_goAlong⟩ ⟨Nat.le_of_ble_eq_true rfl, Nat.le_of_ble_eq_true rfl⟩ rfl hl.1 rfl (Nat.le_of_ble_eq_true rfl) dX5_wanderNow_33 ⟨Nat.zero_le _, Nat.zero_le _⟩ (fun H locs V => W.eq (g2 := F0 m 36 ls []) rfl ?_)
      refine lv_aload_n (pc := 36) hx hb dX5_wanderNow_36 rfl (lv_at hl 1 rfl) ?_
      replace hf := bs hf; obtain ⟨a14, ha14, hf⟩ := hf
      refine x_get (pc := 37) X V okX5 ht3 3 (by decide) q1524 (v := va_rf (R x0 3)) rfl dX5_wanderNow_37 ?_
      refine x_topr ha14 ?_
      refine lv_bipush (pc := 40) (v := (ii 18)) hx hb dX5_wanderNow_40 (by decide) ?_
      refine lv_iload_n (pc := 42) hx hb dX5_wanderNow_42 rfl (lv_at hl 2 rfl) ?_
      refine lv_iadd (pc := 43) hx hb dX5_wanderNow_43 ?_
      replace hf := rA_s hf; obtain ⟨j15, hjj15, htj15, hij15, hf⟩ := hf
      refine x_iald (pc := 44) X V htj15 hij15 hjj15 dX5_wanderNow_44 ?_
      cases hf
      exact x_iret (pc := 45) X V hr dX5_wanderNow_45
    · replace hf := if_t hf c9
      refine lv_bipush (pc := 22) (v := (-3 : Int32)) hx hb dX5_wanderNow_22 (by decide) ?_
      cases hf
      exact x_iret (pc := 24) X V hr dX5_wanderNow_24
  · replace hf := if_t hf c4
    refine lv_bipush (pc := 8) (v := (-2 : Int32)) hx hb dX5_wanderNow_8 (by decide) ?_
    cases hf
    exact x_iret (pc := 10) X V hr dX5_wanderNow_10
theorem mX5_wanderNow {nf : Nat} (l : Launch) (D : va_G) (dA : Nat → ClassId) (s0 : Nat) {T : xT} {N : xT} {Z : Nat} {I : xI} {L : xL} {R : xR} {x0 : Nat} {x1 : Int32} {ro : Int32} {Io : xI} {Lo : xL} (hf : fX5_wanderNow nf T N I L R x0 x1 = some (ro, Io, Lo)) : XMet l D dA s0 yX5_wanderNow (ws_ yX5_wanderNow cX5_wanderNow 3 ((some .int))) (8) (191) [.ref x0, .int x1] T N Z I L R (some (.int ro)) T N Z Io Lo R 0 0 :=
  x_start (own := RX5) rfl (by decide) (Nat.le_of_ble_eq_true rfl) (lv := [(0, .ref x0), (1, .int x1)]) rfl (fun p e s m below meth c ls X hr hini V hl => wX5_wanderNow_e X hr hf V hl)
set_option maxHeartbeats 400000 in
set_option maxRecDepth 100000 in
theorem wX5_wander_e {nf : Nat} {p : Program} {l : Launch} {e : Env} {s : State} {m : MethodId} {args : Array Value} {below : List Frame} {meth : Method} {c : Code} {D : va_G} {dA : Nat → ClassId} {s0 : Nat} {T : xT} {N : xT} {Z : Nat} {I : xI} {L : xL} {R : xR} {H : Heap} {locs : List Loc} {ls : Array Slot} {x0 : Nat} {x1 : Int32} {ro : Int32} {Io : xI} {Lo : xL} (X : Cx D dA s0 p m c cX5_wander 2 s args RX5 meth) (hr : meth.sig.returnType = (some .int)) (hf : fX5_wander nf T N I L R x0 x1 = some (ro, Io, Lo)) (V : Iv D dA s0 s T N Z I L R H locs) (hl : lv_has ls 2 [(0, .ref x0), (1, .int x1)]) : W p l e { frames := 9, cells := 0, slots := 0, locals := 213 } s m args below meth c H locs 0 0 (MQ below (xQ D dA s0 (some (.int ro)) T N Z Io Lo R) args s 0 0 (fun q => s0 ≤ q)) (F0 m 0 ls []) := by
  have hx := X.1.1
  have hb := X.1.2.1
  unfold fX5_wander at hf
  refine lv_aload_n (pc := 0) hx hb dX5_wander_0 rfl (lv_at hl 0 rfl) ?_
  refine lv_iconst (pc := 1) (v := (ii 0)) hx hb dX5_wander_1 (by decide) ?_
  replace hf := tg_s hf; obtain ⟨ht1, hf⟩ := hf
  replace hf := nm_s hf; obtain ⟨I2, hI2, hf⟩ := hf
  refine x_puti (pc := 2) X V okX5 (by decide) ht1 0 (by decide) q1521 (Or.inl rfl) hI2 (fun _ _ _ => rfl) rfl rfl dX5_wander_2 (fun H locs V => ?_)
  refine lv_aload_n (pc := 5) hx hb dX5_wander_5 rfl (lv_at hl 0 rfl) ?_
  refine lv_aload_n (pc := 6) hx hb dX5_wander_6 rfl (lv_at hl 0 rfl) ?_
  refine lv_iload_n (pc := 7) hx hb dX5_wander_7 rfl (lv_at hl 1 rfl) ?_
  replace hf := b3s hf; obtain ⟨r3, I4, L5, hk_6, hf⟩ := hf
  refine x_callV0 (pc := 8) (As := [.int x1]) (rest := [.ref x0]) X V (mX5_wanderNow l D dA s0 hk_6) okX5 ht1 q1973 q1975 qs87 q129 q1976 ⟨rfl, hsX5_wanderNow⟩ ⟨Nat.le_of_ble_eq_true rfl, Nat.le_of_ble_eq_true rfl⟩ rfl hl.1 rfl (Nat.le_of_ble_eq_true rfl) dX5_wander_8 ⟨Nat.zero_le _, Nat.zero_le _⟩ (fun H locs V => W.eq (g2 := F0 m 11 ls [.int r3, .ref x0]) rfl ?_)
  replace hf := b2s hf; obtain ⟨r7, I8, hk_9, hf⟩ := hf
  refine x_callV0 (pc := 11) (As := [.int r3]) (rest := []) X V (mX5_tell l D dA s0 hk_9) okX5 ht1 q1701 q1703 qs45 q129 q1704 ⟨rfl, hsX5_tell⟩ ⟨Nat.le_of_ble_eq_true rfl, Nat.le_of_ble_eq_true rfl⟩ rfl hl.1 rfl (Nat.le_of_ble_eq_true rfl) dX5_wander_11 ⟨Nat.zero_le _, Nat.zero_le _⟩ (fun H locs V => W.eq (g2 := F0 m 14 ls [.int r7]) rfl ?_)
  cases hf
  exact x_iret (pc := 14) X V hr dX5_wander_14
theorem mX5_wander {nf : Nat} (l : Launch) (D : va_G) (dA : Nat → ClassId) (s0 : Nat) {T : xT} {N : xT} {Z : Nat} {I : xI} {L : xL} {R : xR} {x0 : Nat} {x1 : Int32} {ro : Int32} {Io : xI} {Lo : xL} (hf : fX5_wander nf T N I L R x0 x1 = some (ro, Io, Lo)) : XMet l D dA s0 yX5_wander (ws_ yX5_wander cX5_wander 2 ((some .int))) (9) (213) [.ref x0, .int x1] T N Z I L R (some (.int ro)) T N Z Io Lo R 0 0 :=
  x_start (own := RX5) rfl (by decide) (Nat.le_of_ble_eq_true rfl) (lv := [(0, .ref x0), (1, .int x1)]) rfl (fun p e s m below meth c ls X hr hini V hl => wX5_wander_e X hr hf V hl)
set_option maxHeartbeats 400000 in
set_option maxRecDepth 100000 in
theorem wX5_cryIt_e {nf : Nat} {p : Program} {l : Launch} {e : Env} {s : State} {m : MethodId} {args : Array Value} {below : List Frame} {meth : Method} {c : Code} {D : va_G} {dA : Nat → ClassId} {s0 : Nat} {T : xT} {N : xT} {Z : Nat} {I : xI} {L : xL} {R : xR} {H : Heap} {locs : List Loc} {ls : Array Slot} {x0 : Nat} {x1 : Int32} {ro : Int32} {Io : xI} {Lo : xL} (X : Cx D dA s0 p m c cX5_cryIt 3 s args RX5 meth) (hr : meth.sig.returnType = (some .int)) (hf : fX5_cryIt nf T N I L R x0 x1 = some (ro, Io, Lo)) (V : Iv D dA s0 s T N Z I L R H locs) (hl : lv_has ls 3 [(0, .ref x0), (1, .int x1)]) : W p l e { frames := 6, cells := 0, slots := 0, locals := 144 } s m args below meth c H locs 0 0 (MQ below (xQ D dA s0 (some (.int ro)) T N Z Io Lo R) args s 0 0 (fun q => s0 ≤ q)) (F0 m 0 ls []) := by
  have hx := X.1.1
  have hb := X.1.2.1
  unfold fX5_cryIt at hf
  refine lv_aload_n (pc := 0) hx hb dX5_cryIt_0 rfl (lv_at hl 0 rfl) ?_
  replace hf := tg_s hf; obtain ⟨ht1, hf⟩ := hf
  replace hf := bs hf; obtain ⟨a2, ha2, hf⟩ := hf
  refine x_get (pc := 1) X V okX5 ht1 3 (by decide) q1524 (v := va_rf (R x0 3)) rfl dX5_cryIt_1 ?_
  refine x_topr ha2 ?_
  refine lv_bipush (pc := 4) (v := (ii 22)) hx hb dX5_cryIt_4 (by decide) ?_
  refine lv_iload_n (pc := 6) hx hb dX5_cryIt_6 rfl (lv_at hl 1 rfl) ?_
  refine lv_iadd (pc := 7) hx hb dX5_cryIt_7 ?_
  replace hf := rA_s hf; obtain ⟨j3, hjj3, htj3, hij3, hf⟩ := hf
  refine x_iald (pc := 8) X V htj3 hij3 hjj3 dX5_cryIt_8 ?_
  replace hf := nm_s hf; obtain ⟨u4, hu4, hf⟩ := hf
  refine x_topi hu4 ?_
  refine lv_istore_n (pc := 9) (lv' := [(2, .int u4), (0, .ref x0), (1, .int x1)]) hx hb dX5_cryIt_9 rfl hl (by decide) rfl (fun ls hl => ?_)
  refine lv_aload_n (pc := 10) hx hb dX5_cryIt_10 rfl (lv_at hl 1 rfl) ?_
  refine x_get (pc := 11) X V okX5 ht1 3 (by decide) q1524 (v := va_rf (R x0 3)) rfl dX5_cryIt_11 ?_
  refine x_topr ha2 ?_
  refine lv_bipush (pc := 14) (v := (ii 8)) hx hb dX5_cryIt_14 (by decide) ?_
  refine lv_iload_n (pc := 16) hx hb dX5_cryIt_16 rfl (lv_at hl 0 rfl) ?_
  refine lv_iadd (pc := 17) hx hb dX5_cryIt_17 ?_
  refine lv_aload_n (pc := 18) hx hb dX5_cryIt_18 rfl (lv_at hl 1 rfl) ?_
  refine lv_iload_n (pc := 19) hx hb dX5_cryIt_19 rfl (lv_at hl 2 rfl) ?_
  refine lv_iload_n (pc := 20) hx hb dX5_cryIt_20 rfl (lv_at hl 0 rfl) ?_
  replace hf := b3s hf; obtain ⟨r5, I6, L7, hk_8, hf⟩ := hf
  refine x_callV0 (pc := 21) (As := [.int x1, .int u4]) (rest := [.int ((ii 8) + u4), .ref a2]) X V (mX5_saysOf l D dA s0 hk_8) okX5 ht1 q1804 q1806 qs60 q129 q1807 ⟨rfl, hsX5_saysOf⟩ ⟨Nat.le_of_ble_eq_true rfl, Nat.le_of_ble_eq_true rfl⟩ rfl hl.1 rfl (Nat.le_of_ble_eq_true rfl) dX5_cryIt_21 ⟨Nat.zero_le _, Nat.zero_le _⟩ (fun H locs V => W.eq (g2 := F0 m 24 ls [.int r5, .int ((ii 8) + u4), .ref a2]) rfl ?_)
  replace hf := rA_s hf; obtain ⟨j9, hjj9, htj9, hij9, hf⟩ := hf
  replace hf := nm_s hf; obtain ⟨I10, hI10, hf⟩ := hf
  refine x_iast (pc := 24) X V htj9 hij9 hjj9 hI10 dX5_cryIt_24 (fun H locs V => ?_)
  refine lv_aload_n (pc := 25) hx hb dX5_cryIt_25 rfl (lv_at hl 1 rfl) ?_
  refine x_get (pc := 26) X V okX5 ht1 3 (by decide) q1524 (v := va_rf (R x0 3)) rfl dX5_cryIt_26 ?_
  refine x_topr ha2 ?_
  refine lv_bipush (pc := 29) (v := (ii 8)) hx hb dX5_cryIt_29 (by decide) ?_
  refine lv_iload_n (pc := 31) hx hb dX5_cryIt_31 rfl (lv_at hl 0 rfl) ?_
  refine lv_iadd (pc := 32) hx hb dX5_cryIt_32 ?_
  refine x_iald (pc := 33) X V htj9 hij9 hjj9 dX5_cryIt_33 ?_
  cases hf
  exact x_iret (pc := 34) X V hr dX5_cryIt_34
theorem mX5_cryIt {nf : Nat} (l : Launch) (D : va_G) (dA : Nat → ClassId) (s0 : Nat) {T : xT} {N : xT} {Z : Nat} {I : xI} {L : xL} {R : xR} {x0 : Nat} {x1 : Int32} {ro : Int32} {Io : xI} {Lo : xL} (hf : fX5_cryIt nf T N I L R x0 x1 = some (ro, Io, Lo)) : XMet l D dA s0 yX5_cryIt (ws_ yX5_cryIt cX5_cryIt 3 ((some .int))) (6) (144) [.ref x0, .int x1] T N Z I L R (some (.int ro)) T N Z Io Lo R 0 0 :=
  x_start (own := RX5) rfl (by decide) (Nat.le_of_ble_eq_true rfl) (lv := [(0, .ref x0), (1, .int x1)]) rfl (fun p e s m below meth c ls X hr hini V hl => wX5_cryIt_e X hr hf V hl)
set_option maxHeartbeats 400000 in
set_option maxRecDepth 100000 in
theorem wX5_cryNow_e {nf : Nat} {p : Program} {l : Launch} {e : Env} {s : State} {m : MethodId} {args : Array Value} {below : List Frame} {meth : Method} {c : Code} {D : va_G} {dA : Nat → ClassId} {s0 : Nat} {T : xT} {N : xT} {Z : Nat} {I : xI} {L : xL} {R : xR} {H : Heap} {locs : List Loc} {ls : Array Slot} {x0 : Nat} {x1 : Int32} {ro : Int32} {Io : xI} {Lo : xL} (X : Cx D dA s0 p m c cX5_cryNow 2 s args RX5 meth) (hr : meth.sig.returnType = (some .int)) (hf : fX5_cryNow nf T N I L R x0 x1 = some (ro, Io, Lo)) (V : Iv D dA s0 s T N Z I L R H locs) (hl : lv_has ls 2 [(0, .ref x0), (1, .int x1)]) : W p l e { frames := 7, cells := 0, slots := 0, locals := 166 } s m args below meth c H locs 0 0 (MQ below (xQ D dA s0 (some (.int ro)) T N Z Io Lo R) args s 0 0 (fun q => s0 ≤ q)) (F0 m 0 ls []) := by
  have hx := X.1.1
  have hb := X.1.2.1
  unfold fX5_cryNow at hf
  refine lv_aload_n (pc := 0) hx hb dX5_cryNow_0 rfl (lv_at hl 0 rfl) ?_
  refine lv_iload_n (pc := 1) hx hb dX5_cryNow_1 rfl (lv_at hl 1 rfl) ?_
  replace hf := tg_s hf; obtain ⟨ht3, hf⟩ := hf
  replace hf := bs hf; obtain ⟨r1, hk_2, hf⟩ := hf
  refine x_callV0 (pc := 2) (As := [.int x1]) (rest := []) X V (mX5_isChild l D dA s0 hk_2) okX5 ht3 q1754 q1756 qs50 q129 q1757 ⟨rfl, hsX5_isChild⟩ ⟨Nat.le_of_ble_eq_true rfl, Nat.le_of_ble_eq_true rfl⟩ rfl hl.1 rfl (Nat.le_of_ble_eq_true rfl) dX5_cryNow_2 ⟨Nat.zero_le _, Nat.zero_le _⟩ (fun H locs V => W.eq (g2 := F0 m 5 ls [.int r1]) rfl ?_)
  refine lv_if_ne (pc := 5) (tgt := 11) hx hb dX5_cryNow_5 (by decide) (fun c4 => ?_) (fun c4 => ?_)
  · replace hf := if_f hf c4
    refine lv_aload_n (pc := 11) hx hb dX5_cryNow_11 rfl (lv_at hl 0 rfl) ?_
    replace hf := bs hf; obtain ⟨a5, ha5, hf⟩ := hf
    refine x_get (pc := 12) X V okX5 ht3 3 (by decide) q1524 (v := va_rf (R x0 3)) rfl dX5_cryNow_12 ?_
    refine x_topr ha5 ?_
    refine lv_bipush (pc := 15) (v := (ii 22)) hx hb dX5_cryNow_15 (by decide) ?_
    refine lv_iload_n (pc := 17) hx hb dX5_cryNow_17 rfl (lv_at hl 1 rfl) ?_
    refine lv_iadd (pc := 18) hx hb dX5_cryNow_18 ?_
    replace hf := rA_s hf; obtain ⟨j6, hjj6, htj6, hij6, hf⟩ := hf
    refine x_iald (pc := 19) X V htj6 hij6 hjj6 dX5_cryNow_19 ?_
    refine lv_iconst (pc := 20) (v := (-1 : Int32)) hx hb dX5_cryNow_20 (by decide) ?_
    refine lv_icmp_ne (pc := 21) (tgt := 27) hx hb dX5_cryNow_21 (by decide) (fun c7 => ?_) (fun c7 => ?_)
    · replace hf := if_f hf c7
      refine lv_aload_n (pc := 27) hx hb dX5_cryNow_27 rfl (lv_at hl 0 rfl) ?_
      refine lv_iconst (pc := 28) (v := (ii 1)) hx hb dX5_cryNow_28 (by decide) ?_
      replace hf := bs hf; obtain ⟨I8, hk_9, hf⟩ := hf
      refine x_callV0 (pc := 29) (As := [.int (ii 1)]) (rest := []) X V (mX5_remember l D dA s0 hk_9) okX5 ht3 q1977 q1979 qs88 q129 q1980 ⟨rfl, hsX5_remember⟩ ⟨Nat.le_of_ble_eq_true rfl, Nat.le_of_ble_eq_true rfl⟩ rfl hl.1 rfl (Nat.le_of_ble_eq_true rfl) dX5_cryNow_29 ⟨Nat.zero_le _, Nat.zero_le _⟩ (fun H locs V => W.eq (g2 := F0 m 32 ls []) rfl ?_)
      refine lv_aload_n (pc := 32) hx hb dX5_cryNow_32 rfl (lv_at hl 0 rfl) ?_
      refine lv_iload_n (pc := 33) hx hb dX5_cryNow_33 rfl (lv_at hl 1 rfl) ?_
      replace hf := b3s hf; obtain ⟨r10, I11, L12, hk_13, hf⟩ := hf
      refine x_callV0 (pc := 34) (As := [.int x1]) (rest := []) X V (mX5_cryIt l D dA s0 hk_13) okX5 ht3 q2001 q2003 qs93 q129 q2004 ⟨rfl, hsX5_cryIt⟩ ⟨Nat.le_of_ble_eq_true rfl, Nat.le_of_ble_eq_true rfl⟩ rfl hl.1 rfl (Nat.le_of_ble_eq_true rfl) dX5_cryNow_34 ⟨Nat.zero_le _, Nat.zero_le _⟩ (fun H locs V => W.eq (g2 := F0 m 37 ls [.int r10]) rfl ?_)
      cases hf
      exact x_iret (pc := 37) X V hr dX5_cryNow_37
    · replace hf := if_t hf c7
      refine lv_bipush (pc := 24) (v := (-3 : Int32)) hx hb dX5_cryNow_24 (by decide) ?_
      cases hf
      exact x_iret (pc := 26) X V hr dX5_cryNow_26
  · replace hf := if_t hf c4
    refine lv_bipush (pc := 8) (v := (-2 : Int32)) hx hb dX5_cryNow_8 (by decide) ?_
    cases hf
    exact x_iret (pc := 10) X V hr dX5_cryNow_10
theorem mX5_cryNow {nf : Nat} (l : Launch) (D : va_G) (dA : Nat → ClassId) (s0 : Nat) {T : xT} {N : xT} {Z : Nat} {I : xI} {L : xL} {R : xR} {x0 : Nat} {x1 : Int32} {ro : Int32} {Io : xI} {Lo : xL} (hf : fX5_cryNow nf T N I L R x0 x1 = some (ro, Io, Lo)) : XMet l D dA s0 yX5_cryNow (ws_ yX5_cryNow cX5_cryNow 2 ((some .int))) (7) (166) [.ref x0, .int x1] T N Z I L R (some (.int ro)) T N Z Io Lo R 0 0 :=
  x_start (own := RX5) rfl (by decide) (Nat.le_of_ble_eq_true rfl) (lv := [(0, .ref x0), (1, .int x1)]) rfl (fun p e s m below meth c ls X hr hini V hl => wX5_cryNow_e X hr hf V hl)
set_option maxHeartbeats 400000 in
set_option maxRecDepth 100000 in
theorem wX5_cry_e {nf : Nat} {p : Program} {l : Launch} {e : Env} {s : State} {m : MethodId} {args : Array Value} {below : List Frame} {meth : Method} {c : Code} {D : va_G} {dA : Nat → ClassId} {s0 : Nat} {T : xT} {N : xT} {Z : Nat} {I : xI} {L : xL} {R : xR} {H : Heap} {locs : List Loc} {ls : Array Slot} {x0 : Nat} {x1 : Int32} {ro : Int32} {Io : xI} {Lo : xL} (X : Cx D dA s0 p m c cX5_cry 2 s args RX5 meth) (hr : meth.sig.returnType = (some .int)) (hf : fX5_cry nf T N I L R x0 x1 = some (ro, Io, Lo)) (V : Iv D dA s0 s T N Z I L R H locs) (hl : lv_has ls 2 [(0, .ref x0), (1, .int x1)]) : W p l e { frames := 8, cells := 0, slots := 0, locals := 187 } s m args below meth c H locs 0 0 (MQ below (xQ D dA s0 (some (.int ro)) T N Z Io Lo R) args s 0 0 (fun q => s0 ≤ q)) (F0 m 0 ls []) := by
  have hx := X.1.1
  have hb := X.1.2.1
  unfold fX5_cry at hf
  refine lv_aload_n (pc := 0) hx hb dX5_cry_0 rfl (lv_at hl 0 rfl) ?_
  refine lv_iconst (pc := 1) (v := (ii 0)) hx hb dX5_cry_1 (by decide) ?_
  replace hf := tg_s hf; obtain ⟨ht1, hf⟩ := hf
  replace hf := nm_s hf; obtain ⟨I2, hI2, hf⟩ := hf
  refine x_puti (pc := 2) X V okX5 (by decide) ht1 0 (by decide) q1521 (Or.inl rfl) hI2 (fun _ _ _ => rfl) rfl rfl dX5_cry_2 (fun H locs V => ?_)
  refine lv_aload_n (pc := 5) hx hb dX5_cry_5 rfl (lv_at hl 0 rfl) ?_
  refine lv_aload_n (pc := 6) hx hb dX5_cry_6 rfl (lv_at hl 0 rfl) ?_
  refine lv_iload_n (pc := 7) hx hb dX5_cry_7 rfl (lv_at hl 1 rfl) ?_
  replace hf := b3s hf; obtain ⟨r3, I4, L5, hk_6, hf⟩ := hf
  refine x_callV0 (pc := 8) (As := [.int x1]) (rest := [.ref x0]) X V (mX5_cryNow l D dA s0 hk_6) okX5 ht1 q1997 q1999 qs92 q129 q2000 ⟨rfl, hsX5_cryNow⟩ ⟨Nat.le_of_ble_eq_true rfl, Nat.le_of_ble_eq_true rfl⟩ rfl hl.1 rfl (Nat.le_of_ble_eq_true rfl) dX5_cry_8 ⟨Nat.zero_le _, Nat.zero_le _⟩ (fun H locs V => W.eq (g2 := F0 m 11 ls [.int r3, .ref x0]) rfl ?_)
  replace hf := b2s hf; obtain ⟨r7, I8, hk_9, hf⟩ := hf
  refine x_callV0 (pc := 11) (As := [.int r3]) (rest := []) X V (mX5_tell l D dA s0 hk_9) okX5 ht1 q1701 q1703 qs45 q129 q1704 ⟨rfl, hsX5_tell⟩ ⟨Nat.le_of_ble_eq_true rfl, Nat.le_of_ble_eq_true rfl⟩ rfl hl.1 rfl (Nat.le_of_ble_eq_true rfl) dX5_cry_11 ⟨Nat.zero_le _, Nat.zero_le _⟩ (fun H locs V => W.eq (g2 := F0 m 14 ls [.int r7]) rfl ?_)
  cases hf
  exact x_iret (pc := 14) X V hr dX5_cry_14
theorem mX5_cry {nf : Nat} (l : Launch) (D : va_G) (dA : Nat → ClassId) (s0 : Nat) {T : xT} {N : xT} {Z : Nat} {I : xI} {L : xL} {R : xR} {x0 : Nat} {x1 : Int32} {ro : Int32} {Io : xI} {Lo : xL} (hf : fX5_cry nf T N I L R x0 x1 = some (ro, Io, Lo)) : XMet l D dA s0 yX5_cry (ws_ yX5_cry cX5_cry 2 ((some .int))) (8) (187) [.ref x0, .int x1] T N Z I L R (some (.int ro)) T N Z Io Lo R 0 0 :=
  x_start (own := RX5) rfl (by decide) (Nat.le_of_ble_eq_true rfl) (lv := [(0, .ref x0), (1, .int x1)]) rfl (fun p e s m below meth c ls X hr hini V hl => wX5_cry_e X hr hf V hl)
set_option maxHeartbeats 400000 in
set_option maxRecDepth 100000 in
theorem wX5_leadNow_e {nf : Nat} {p : Program} {l : Launch} {e : Env} {s : State} {m : MethodId} {args : Array Value} {below : List Frame} {meth : Method} {c : Code} {D : va_G} {dA : Nat → ClassId} {s0 : Nat} {T : xT} {N : xT} {Z : Nat} {I : xI} {L : xL} {R : xR} {H : Heap} {locs : List Loc} {ls : Array Slot} {x0 : Nat} {x1 : Int32} {x2 : Int32} {ro : Int32} {Io : xI} (X : Cx D dA s0 p m c cX5_leadNow 4 s args RX5 meth) (hr : meth.sig.returnType = (some .int)) (hf : fX5_leadNow nf T N I R x0 x1 x2 = some (ro, Io)) (V : Iv D dA s0 s T N Z I L R H locs) (hl : lv_has ls 4 [(0, .ref x0), (1, .int x1), (2, .int x2)]) : W p l e { frames := 2, cells := 0, slots := 0, locals := 46 } s m args below meth c H locs 0 0 (MQ below (xQ D dA s0 (some (.int ro)) T N Z Io L R) args s 0 0 (fun q => s0 ≤ q)) (F0 m 0 ls []) := by
  have hx := X.1.1
  have hb := X.1.2.1
  unfold fX5_leadNow at hf
  refine lv_iload_n (pc := 0) hx hb dX5_leadNow_0 rfl (lv_at hl 2 rfl) ?_
  replace hf := bs hf; obtain ⟨r1, hk_2, hf⟩ := hf
  refine x_callS0 (pc := 1) (As := [.int x2]) (rest := []) X V (mX5_isCorner l D dA s0 hk_2) q1732 q1733 q129 q1734 hsX5_isCorner ⟨Nat.le_of_ble_eq_true rfl, Nat.le_of_ble_eq_true rfl⟩ rfl hl.1 rfl (Nat.le_of_ble_eq_true rfl) dX5_leadNow_1 ⟨Nat.zero_le _, Nat.zero_le _⟩ (fun H locs V => W.eq (g2 := F0 m 4 ls [.int r1]) rfl ?_)
  refine lv_if_ne (pc := 4) (tgt := 9) hx hb dX5_leadNow_4 (by decide) (fun c3 => ?_) (fun c3 => ?_)
  · replace hf := if_f hf c3
    refine lv_aload_n (pc := 9) hx hb dX5_leadNow_9 rfl (lv_at hl 0 rfl) ?_
    refine lv_iload_n (pc := 10) hx hb dX5_leadNow_10 rfl (lv_at hl 1 rfl) ?_
    replace hf := tg_s hf; obtain ⟨ht6, hf⟩ := hf
    replace hf := bs hf; obtain ⟨r4, hk_5, hf⟩ := hf
    refine x_callV0 (pc := 11) (As := [.int x1]) (rest := []) X V (mX5_isChild l D dA s0 hk_5) okX5 ht6 q1754 q1756 qs50 q129 q1757 ⟨rfl, hsX5_isChild⟩ ⟨Nat.le_of_ble_eq_true rfl, Nat.le_of_ble_eq_true rfl⟩ rfl hl.1 rfl (Nat.le_of_ble_eq_true rfl) dX5_leadNow_11 ⟨Nat.zero_le _, Nat.zero_le _⟩ (fun H locs V => W.eq (g2 := F0 m 14 ls [.int r4]) rfl ?_)
    refine lv_if_ne (pc := 14) (tgt := 20) hx hb dX5_leadNow_14 (by decide) (fun c7 => ?_) (fun c7 => ?_)
    · replace hf := if_f hf c7
      refine lv_aload_n (pc := 20) hx hb dX5_leadNow_20 rfl (lv_at hl 0 rfl) ?_
      replace hf := bs hf; obtain ⟨a8, ha8, hf⟩ := hf
      refine x_get (pc := 21) X V okX5 ht6 3 (by decide) q1524 (v := va_rf (R x0 3)) rfl dX5_leadNow_21 ?_
      refine x_topr ha8 ?_
      refine lv_bipush (pc := 24) (v := (ii 18)) hx hb dX5_leadNow_24 (by decide) ?_
      refine lv_iload_n (pc := 26) hx hb dX5_leadNow_26 rfl (lv_at hl 1 rfl) ?_
      refine lv_iadd (pc := 27) hx hb dX5_leadNow_27 ?_
      replace hf := rA_s hf; obtain ⟨j9, hjj9, htj9, hij9, hf⟩ := hf
      refine x_iald (pc := 28) X V htj9 hij9 hjj9 dX5_leadNow_28 ?_
      replace hf := nm_s hf; obtain ⟨u10, hu10, hf⟩ := hf
      refine x_topi hu10 ?_
      refine lv_istore_n (pc := 29) (lv' := [(3, .int u10), (0, .ref x0), (1, .int x1), (2, .int x2)]) hx hb dX5_leadNow_29 rfl hl (by decide) rfl (fun ls hl => ?_)
      refine lv_iload_n (pc := 30) hx hb dX5_leadNow_30 rfl (lv_at hl 0 rfl) ?_
      refine lv_iload_n (pc := 31) hx hb dX5_leadNow_31 rfl (lv_at hl 3 rfl) ?_
      refine lv_icmp_ne (pc := 32) (tgt := 38) hx hb dX5_leadNow_32 (by decide) (fun c11 => ?_) (fun c11 => ?_)
      · replace hf := if_f hf c11
        refine lv_aload_n (pc := 38) hx hb dX5_leadNow_38 rfl (lv_at hl 1 rfl) ?_
        refine lv_iconst (pc := 39) (v := (ii 2)) hx hb dX5_leadNow_39 (by decide) ?_
        replace hf := bs hf; obtain ⟨I12, hk_13, hf⟩ := hf
        refine x_callV0 (pc := 40) (As := [.int (ii 2)]) (rest := []) X V (mX5_remember l D dA s0 hk_13) okX5 ht6 q1977 q1979 qs88 q129 q1980 ⟨rfl, hsX5_remember⟩ ⟨Nat.le_of_ble_eq_true rfl, Nat.le_of_ble_eq_true rfl⟩ rfl hl.1 rfl (Nat.le_of_ble_eq_true rfl) dX5_leadNow_40 ⟨Nat.zero_le _, Nat.zero_le _⟩ (fun H locs V => W.eq (g2 := F0 m 43 ls []) rfl ?_)
        refine lv_aload_n (pc := 43) hx hb dX5_leadNow_43 rfl (lv_at hl 1 rfl) ?_
        refine x_get (pc := 44) X V okX5 ht6 3 (by decide) q1524 (v := va_rf (R x0 3)) rfl dX5_leadNow_44 ?_
        refine x_topr ha8 ?_
        refine lv_bipush (pc := 47) (v := (ii 18)) hx hb dX5_leadNow_47 (by decide) ?_
        refine lv_iload_n (pc := 49) hx hb dX5_leadNow_49 rfl (lv_at hl 2 rfl) ?_
        refine lv_iadd (pc := 50) hx hb dX5_leadNow_50 ?_
        refine lv_iload_n (pc := 51) hx hb dX5_leadNow_51 rfl (lv_at hl 3 rfl) ?_
        replace hf := nm_s hf; obtain ⟨I14, hI14, hf⟩ := hf
        refine x_iast (pc := 52) X V htj9 hij9 hjj9 hI14 dX5_leadNow_52 (fun H locs V => ?_)
        refine lv_iload_n (pc := 53) hx hb dX5_leadNow_53 rfl (lv_at hl 0 rfl) ?_
        cases hf
        exact x_iret (pc := 54) X V hr dX5_leadNow_54
      · replace hf := if_t hf c11
        refine lv_bipush (pc := 35) (v := (-3 : Int32)) hx hb dX5_leadNow_35 (by decide) ?_
        cases hf
        exact x_iret (pc := 37) X V hr dX5_leadNow_37
    · replace hf := if_t hf c7
      refine lv_bipush (pc := 17) (v := (-2 : Int32)) hx hb dX5_leadNow_17 (by decide) ?_
      cases hf
      exact x_iret (pc := 19) X V hr dX5_leadNow_19
  · replace hf := if_t hf c3
    refine lv_iconst (pc := 7) (v := (-1 : Int32)) hx hb dX5_leadNow_7 (by decide) ?_
    cases hf
    exact x_iret (pc := 8) X V hr dX5_leadNow_8
theorem mX5_leadNow {nf : Nat} (l : Launch) (D : va_G) (dA : Nat → ClassId) (s0 : Nat) {T : xT} {N : xT} {Z : Nat} {I : xI} {L : xL} {R : xR} {x0 : Nat} {x1 : Int32} {x2 : Int32} {ro : Int32} {Io : xI} (hf : fX5_leadNow nf T N I R x0 x1 x2 = some (ro, Io)) : XMet l D dA s0 yX5_leadNow (ws_ yX5_leadNow cX5_leadNow 4 ((some .int))) (2) (46) [.ref x0, .int x1, .int x2] T N Z I L R (some (.int ro)) T N Z Io L R 0 0 :=
  x_start (own := RX5) rfl (by decide) (Nat.le_of_ble_eq_true rfl) (lv := [(0, .ref x0), (1, .int x1), (2, .int x2)]) rfl (fun p e s m below meth c ls X hr hini V hl => wX5_leadNow_e X hr hf V hl)
set_option maxHeartbeats 400000 in
set_option maxRecDepth 100000 in
theorem wX5_lead_e {nf : Nat} {p : Program} {l : Launch} {e : Env} {s : State} {m : MethodId} {args : Array Value} {below : List Frame} {meth : Method} {c : Code} {D : va_G} {dA : Nat → ClassId} {s0 : Nat} {T : xT} {N : xT} {Z : Nat} {I : xI} {L : xL} {R : xR} {H : Heap} {locs : List Loc} {ls : Array Slot} {x0 : Nat} {x1 : Int32} {x2 : Int32} {ro : Int32} {Io : xI} (X : Cx D dA s0 p m c cX5_lead 3 s args RX5 meth) (hr : meth.sig.returnType = (some .int)) (hf : fX5_lead nf T N I R x0 x1 x2 = some (ro, Io)) (V : Iv D dA s0 s T N Z I L R H locs) (hl : lv_has ls 3 [(0, .ref x0), (1, .int x1), (2, .int x2)]) : W p l e { frames := 3, cells := 0, slots := 0, locals := 69 } s m args below meth c H locs 0 0 (MQ below (xQ D dA s0 (some (.int ro)) T N Z Io L R) args s 0 0 (fun q => s0 ≤ q)) (F0 m 0 ls []) := by
  have hx := X.1.1
  have hb := X.1.2.1
  unfold fX5_lead at hf
  refine lv_aload_n (pc := 0) hx hb dX5_lead_0 rfl (lv_at hl 0 rfl) ?_
  refine lv_iconst (pc := 1) (v := (ii 0)) hx hb dX5_lead_1 (by decide) ?_
  replace hf := tg_s hf; obtain ⟨ht1, hf⟩ := hf
  replace hf := nm_s hf; obtain ⟨I2, hI2, hf⟩ := hf
  refine x_puti (pc := 2) X V okX5 (by decide) ht1 0 (by decide) q1521 (Or.inl rfl) hI2 (fun _ _ _ => rfl) rfl rfl dX5_lead_2 (fun H locs V => ?_)
  refine lv_aload_n (pc := 5) hx hb dX5_lead_5 rfl (lv_at hl 0 rfl) ?_
  refine lv_aload_n (pc := 6) hx hb dX5_lead_6 rfl (lv_at hl 0 rfl) ?_
  refine lv_iload_n (pc := 7) hx hb dX5_lead_7 rfl (lv_at hl 1 rfl) ?_
  refine lv_iload_n (pc := 8) hx hb dX5_lead_8 rfl (lv_at hl 2 rfl) ?_
  replace hf := b2s hf; obtain ⟨r3, I4, hk_5, hf⟩ := hf
  refine x_callV0 (pc := 9) (As := [.int x1, .int x2]) (rest := [.ref x0]) X V (mX5_leadNow l D dA s0 hk_5) okX5 ht1 q2009 q2011 qs94 q129 q2012 ⟨rfl, hsX5_leadNow⟩ ⟨Nat.le_of_ble_eq_true rfl, Nat.le_of_ble_eq_true rfl⟩ rfl hl.1 rfl (Nat.le_of_ble_eq_true rfl) dX5_lead_9 ⟨Nat.zero_le _, Nat.zero_le _⟩ (fun H locs V => W.eq (g2 := F0 m 12 ls [.int r3, .ref x0]) rfl ?_)
  replace hf := b2s hf; obtain ⟨r6, I7, hk_8, hf⟩ := hf
  refine x_callV0 (pc := 12) (As := [.int r3]) (rest := []) X V (mX5_tell l D dA s0 hk_8) okX5 ht1 q1701 q1703 qs45 q129 q1704 ⟨rfl, hsX5_tell⟩ ⟨Nat.le_of_ble_eq_true rfl, Nat.le_of_ble_eq_true rfl⟩ rfl hl.1 rfl (Nat.le_of_ble_eq_true rfl) dX5_lead_12 ⟨Nat.zero_le _, Nat.zero_le _⟩ (fun H locs V => W.eq (g2 := F0 m 15 ls [.int r6]) rfl ?_)
  cases hf
  exact x_iret (pc := 15) X V hr dX5_lead_15
theorem mX5_lead {nf : Nat} (l : Launch) (D : va_G) (dA : Nat → ClassId) (s0 : Nat) {T : xT} {N : xT} {Z : Nat} {I : xI} {L : xL} {R : xR} {x0 : Nat} {x1 : Int32} {x2 : Int32} {ro : Int32} {Io : xI} (hf : fX5_lead nf T N I R x0 x1 x2 = some (ro, Io)) : XMet l D dA s0 yX5_lead (ws_ yX5_lead cX5_lead 3 ((some .int))) (3) (69) [.ref x0, .int x1, .int x2] T N Z I L R (some (.int ro)) T N Z Io L R 0 0 :=
  x_start (own := RX5) rfl (by decide) (Nat.le_of_ble_eq_true rfl) (lv := [(0, .ref x0), (1, .int x1), (2, .int x2)]) rfl (fun p e s m below meth c ls X hr hini V hl => wX5_lead_e X hr hf V hl)
set_option maxHeartbeats 400000 in
set_option maxRecDepth 100000 in
theorem wX5_passIt_b33 {nf : Nat} {p : Program} {l : Launch} {e : Env} {s : State} {m : MethodId} {args : Array Value} {below : List Frame} {meth : Method} {c : Code} {D : va_G} {dA : Nat → ClassId} {s0 : Nat} {T : xT} {N : xT} {Z : Nat} {R : xR}  {ro : Int32} {Io : xI} {Lo : xL} (X : Cx D dA s0 p m c cX5_passIt 3 s args RX5 meth) (hr : meth.sig.returnType = (some .int))   (k : Nat) : ∀ {I : xI} {L : xL} {x0 : Nat} {x1 : Int32} {x2 : Int32} {H : Heap} {locs : List Loc} {ls : Array Slot} , fX5_passIt_b33 nf T N R k I L x0 x1 x2 = some (ro, Io, Lo) → Iv D dA s0 s T N Z I L R H locs → lv_has ls 3 [(0, .ref x0), (1, .int x1), (2, .int x2)] → W p l e { frames := 8, cells := 0, slots := 0, locals := 191 } s m args below meth c H locs 0 0 (MQ below (xQ D dA s0 (some (.int ro)) T N Z Io Lo R) args s 0 0 (fun q => s0 ≤ q)) (F0 m 33 ls []) := by
  have hx := X.1.1
  have hb := X.1.2.1
  induction k with
  | zero =>
    intro I L x0 x1 x2 H locs ls hf V hl
    exact absurd (show none = some _ from hf) (fun q => nomatch q)
  | succ k ih =>
    intro I L x0 x1 x2 H locs ls hf V hl
    rw [fX5_passIt_b33] at hf
    refine lv_iload_n (pc := 33) hx hb dX5_passIt_33 rfl (lv_at hl 2 rfl) ?_
    refine lv_aload_n (pc := 34) hx hb dX5_passIt_34 rfl (lv_at hl 0 rfl) ?_
    replace hf := tg_s hf; obtain ⟨ht1, hf⟩ := hf
    replace hf := bs hf; obtain ⟨a2, ha2, hf⟩ := hf
    refine x_get (pc := 35) X V okX5 ht1 3 (by decide) q1524 (v := va_rf (R x0 3)) rfl dX5_passIt_35 ?_
    refine x_topr ha2 ?_
    refine lv_iconst (pc := 38) (v := (ii 1)) hx hb dX5_passIt_38 (by decide) ?_
    replace hf := rA_s hf; obtain ⟨j3, hjj3, htj3, hij3, hf⟩ := hf
    refine x_iald (pc := 39) X V htj3 hij3 hjj3 dX5_passIt_39 ?_
    refine lv_icmp_ge (pc := 40) (tgt := 73) hx hb dX5_passIt_40 (by decide) (fun c4 => ?_) (fun c4 => ?_)
    · replace hf := if_t hf c4
      refine lv_aload_n (pc := 73) hx hb dX5_passIt_73 rfl (lv_at hl 0 rfl) ?_
      refine x_get (pc := 74) X V okX5 ht1 3 (by decide) q1524 (v := va_rf (R x0 3)) rfl dX5_passIt_74 ?_
      refine x_topr ha2 ?_
      refine lv_iconst (pc := 77) (v := (ii 5)) hx hb dX5_passIt_77 (by decide) ?_
      refine lv_dup2_11 (pc := 78) hx hb dX5_passIt_78 rfl rfl ?_
      replace hf := rA_s hf; obtain ⟨j5, hjj5, htj5, hij5, hf⟩ := hf
      refine x_iald (pc := 79) X V htj5 hij5 hjj5 dX5_passIt_79 ?_
      refine lv_iconst (pc := 80) (v := (ii 1)) hx hb dX5_passIt_80 (by decide) ?_
      refine lv_iadd (pc := 81) hx hb dX5_passIt_81 ?_
      replace hf := nm_s hf; obtain ⟨I6, hI6, hf⟩ := hf
      refine x_iast (pc := 82) X V htj5 hij5 hjj5 hI6 dX5_passIt_82 (fun H locs V => ?_)
      refine lv_iload_n (pc := 83) hx hb dX5_passIt_83 rfl (lv_at hl 1 rfl) ?_
      cases hf
      exact x_iret (pc := 84) X V hr dX5_passIt_84
    · replace hf := if_f hf c4
      refine lv_aload_n (pc := 43) hx hb dX5_passIt_43 rfl (lv_at hl 0 rfl) ?_
      replace hf := bs hf; obtain ⟨a7, ha7, hf⟩ := hf
      refine x_get (pc := 44) X V okX5 ht1 41 (by decide) q1562 (v := va_rf (R x0 41)) rfl dX5_passIt_44 ?_
      refine x_topr ha7 ?_
      refine lv_iload_n (pc := 47) hx hb dX5_passIt_47 rfl (lv_at hl 2 rfl) ?_
      replace hf := rA_s hf; obtain ⟨j8, hjj8, htj8, hij8, hf⟩ := hf
      refine x_iald (pc := 48) X V htj8 hij8 hjj8 dX5_passIt_48 ?_
      refine lv_iconst (pc := 49) (v := (-1 : Int32)) hx hb dX5_passIt_49 (by decide) ?_
      refine lv_icmp_eq (pc := 50) (tgt := 67) hx hb dX5_passIt_50 (by decide) (fun c9 => ?_) (fun c9 => ?_)
      · replace hf := if_t hf c9
        replace hf := nm_s hf; obtain ⟨u10, hu10, hf⟩ := hf
        refine lv_iinc (pc := 67) (v := u10) (lv' := [(2, .int u10), (0, .ref x0), (1, .int x1)]) hx hb dX5_passIt_67 hl (k := 2) rfl (by rw [hu10]; rfl) (by decide) rfl (fun ls hl => ?_)
        refine lv_goto (pc := 70) (tgt := 33) hx hb dX5_passIt_70 (by decide) ?_
        exact ih hf V (lv_sub hl [1, 2, 0] rfl)
      · replace hf := if_f hf c9
        refine lv_aload_n (pc := 53) hx hb dX5_passIt_53 rfl (lv_at hl 0 rfl) ?_
        refine lv_iload_n (pc := 54) hx hb dX5_passIt_54 rfl (lv_at hl 2 rfl) ?_
        refine lv_aload_n (pc := 55) hx hb dX5_passIt_55 rfl (lv_at hl 0 rfl) ?_
        refine x_get (pc := 56) X V okX5 ht1 41 (by decide) q1562 (v := va_rf (R x0 41)) rfl dX5_passIt_56 ?_
        refine x_topr ha7 ?_
        refine lv_iload_n (pc := 59) hx hb dX5_passIt_59 rfl (lv_at hl 2 rfl) ?_
        refine x_iald (pc := 60) X V htj8 hij8 hjj8 dX5_passIt_60 ?_
        replace hf := bs hf; obtain ⟨I11, hk_12, hf⟩ := hf
        refine x_callV0 (pc := 61) (As := [.int x2, .int (I a7 j8)]) (rest := []) X V (mX5_goAlong l D dA s0 hk_12) okX5 ht1 q1985 q1987 qs90 q129 q1988 ⟨rfl, hsX5_goAlong⟩ ⟨Nat.le_of_ble_eq_true rfl, Nat.le_of_ble_eq_true rfl⟩ rfl hl.1 rfl (Nat.le_of_ble_eq_true rfl) dX5_passIt_61 ⟨Nat.zero_le _, Nat.zero_le _⟩ (fun H locs V => W.eq (g2 := F0 m 64 ls []) rfl ?_)
        replace hf := nm_s hf; obtain ⟨u13, hu13, hf⟩ := hf
        refine lv_iinc (pc := 64) (v := u13) (lv' := [(1, .int u13), (0, .ref x0), (2, .int x2)]) hx hb dX5_passIt_64 hl (k := 1) rfl (by rw [hu13]; rfl) (by decide) rfl (fun ls hl => ?_)
        replace hf := nm_s hf; obtain ⟨u14, hu14, hf⟩ := hf
        refine lv_iinc (pc := 67) (v := u14) (lv' := [(2, .int u14), (1, .int u13), (0, .ref x0)]) hx hb dX5_passIt_67 hl (k := 2) rfl (by rw [hu14]; rfl) (by decide) rfl (fun ls hl => ?_)
        refine lv_goto (pc := 70) (tgt := 33) hx hb dX5_passIt_70 (by decide) ?_
        exact ih hf V (lv_sub hl [2, 1, 0] rfl)
set_option maxHeartbeats 400000 in
set_option maxRecDepth 100000 in
theorem wX5_passIt_b4 {nf : Nat} {p : Program} {l : Launch} {e : Env} {s : State} {m : MethodId} {args : Array Value} {below : List Frame} {meth : Method} {c : Code} {D : va_G} {dA : Nat → ClassId} {s0 : Nat} {T : xT} {N : xT} {Z : Nat} {R : xR}  {ro : Int32} {Io : xI} {Lo : xL} (X : Cx D dA s0 p m c cX5_passIt 3 s args RX5 meth) (hr : meth.sig.returnType = (some .int))   (k : Nat) : ∀ {I : xI} {L : xL} {x0 : Nat} {x1 : Int32} {x2 : Int32} {H : Heap} {locs : List Loc} {ls : Array Slot} , fX5_passIt_b4 nf T N R k I L x0 x1 x2 = some (ro, Io, Lo) → Iv D dA s0 s T N Z I L R H locs → lv_has ls 3 [(0, .ref x0), (1, .int x1), (2, .int x2)] → W p l e { frames := 8, cells := 0, slots := 0, locals := 191 } s m args below meth c H locs 0 0 (MQ below (xQ D dA s0 (some (.int ro)) T N Z Io Lo R) args s 0 0 (fun q => s0 ≤ q)) (F0 m 4 ls []) := by
  have hx := X.1.1
  have hb := X.1.2.1
  induction k with
  | zero =>
    intro I L x0 x1 x2 H locs ls hf V hl
    exact absurd (show none = some _ from hf) (fun q => nomatch q)
  | succ k ih =>
    intro I L x0 x1 x2 H locs ls hf V hl
    rw [fX5_passIt_b4] at hf
    refine lv_iload_n (pc := 4) hx hb dX5_passIt_4 rfl (lv_at hl 2 rfl) ?_
    refine lv_aload_n (pc := 5) hx hb dX5_passIt_5 rfl (lv_at hl 0 rfl) ?_
    replace hf := tg_s hf; obtain ⟨ht1, hf⟩ := hf
    replace hf := bs hf; obtain ⟨a2, ha2, hf⟩ := hf
    refine x_get (pc := 6) X V okX5 ht1 3 (by decide) q1524 (v := va_rf (R x0 3)) rfl dX5_passIt_6 ?_
    refine x_topr ha2 ?_
    refine lv_iconst (pc := 9) (v := (ii 1)) hx hb dX5_passIt_9 (by decide) ?_
    replace hf := rA_s hf; obtain ⟨j3, hjj3, htj3, hij3, hf⟩ := hf
    refine x_iald (pc := 10) X V htj3 hij3 hjj3 dX5_passIt_10 ?_
    refine lv_icmp_ge (pc := 11) (tgt := 31) hx hb dX5_passIt_11 (by decide) (fun c4 => ?_) (fun c4 => ?_)
    · replace hf := if_t hf c4
      refine lv_iconst (pc := 31) (v := (ii 0)) hx hb dX5_passIt_31 (by decide) ?_
      refine lv_istore_n (pc := 32) (lv' := [(2, .int (ii 0)), (0, .ref x0), (1, .int x1)]) hx hb dX5_passIt_32 rfl hl (by decide) rfl (fun ls hl => ?_)
      exact wX5_passIt_b33 X hr nf hf V (lv_sub hl [1, 2, 0] rfl)
    · replace hf := if_f hf c4
      refine lv_aload_n (pc := 14) hx hb dX5_passIt_14 rfl (lv_at hl 0 rfl) ?_
      replace hf := bs hf; obtain ⟨a5, ha5, hf⟩ := hf
      refine x_get (pc := 15) X V okX5 ht1 41 (by decide) q1562 (v := va_rf (R x0 41)) rfl dX5_passIt_15 ?_
      refine x_topr ha5 ?_
      refine lv_iload_n (pc := 18) hx hb dX5_passIt_18 rfl (lv_at hl 2 rfl) ?_
      refine lv_aload_n (pc := 19) hx hb dX5_passIt_19 rfl (lv_at hl 0 rfl) ?_
      refine lv_iload_n (pc := 20) hx hb dX5_passIt_20 rfl (lv_at hl 2 rfl) ?_
      replace hf := b3s hf; obtain ⟨r6, I7, L8, hk_9, hf⟩ := hf
      refine x_callV0 (pc := 21) (As := [.int x2]) (rest := [.int x2, .ref a5]) X V (mX5_laneOf l D dA s0 hk_9) okX5 ht1 q1784 q1786 qs56 q129 q1787 ⟨rfl, hsX5_laneOf⟩ ⟨Nat.le_of_ble_eq_true rfl, Nat.le_of_ble_eq_true rfl⟩ rfl hl.1 rfl (Nat.le_of_ble_eq_true rfl) dX5_passIt_21 ⟨Nat.zero_le _, Nat.zero_le _⟩ (fun H locs V => W.eq (g2 := F0 m 24 ls [.int r6, .int x2, .ref a5]) rfl ?_)
      replace hf := rA_s hf; obtain ⟨j10, hjj10, htj10, hij10, hf⟩ := hf
      replace hf := nm_s hf; obtain ⟨I11, hI11, hf⟩ := hf
      refine x_iast (pc := 24) X V htj10 hij10 hjj10 hI11 dX5_passIt_24 (fun H locs V => ?_)
      replace hf := nm_s hf; obtain ⟨u12, hu12, hf⟩ := hf
      refine lv_iinc (pc := 25) (v := u12) (lv' := [(2, .int u12), (0, .ref x0), (1, .int x1)]) hx hb dX5_passIt_25 hl (k := 2) rfl (by rw [hu12]; rfl) (by decide) rfl (fun ls hl => ?_)
      refine lv_goto (pc := 28) (tgt := 4) hx hb dX5_passIt_28 (by decide) ?_
      exact ih hf V (lv_sub hl [1, 2, 0] rfl)
set_option maxHeartbeats 400000 in
set_option maxRecDepth 100000 in
theorem wX5_passIt_e {nf : Nat} {p : Program} {l : Launch} {e : Env} {s : State} {m : MethodId} {args : Array Value} {below : List Frame} {meth : Method} {c : Code} {D : va_G} {dA : Nat → ClassId} {s0 : Nat} {T : xT} {N : xT} {Z : Nat} {I : xI} {L : xL} {R : xR} {H : Heap} {locs : List Loc} {ls : Array Slot} {x0 : Nat} {ro : Int32} {Io : xI} {Lo : xL} (X : Cx D dA s0 p m c cX5_passIt 3 s args RX5 meth) (hr : meth.sig.returnType = (some .int)) (hf : fX5_passIt nf T N I L R x0 = some (ro, Io, Lo)) (V : Iv D dA s0 s T N Z I L R H locs) (hl : lv_has ls 3 [(0, .ref x0)]) : W p l e { frames := 8, cells := 0, slots := 0, locals := 191 } s m args below meth c H locs 0 0 (MQ below (xQ D dA s0 (some (.int ro)) T N Z Io Lo R) args s 0 0 (fun q => s0 ≤ q)) (F0 m 0 ls []) := by
  have hx := X.1.1
  have hb := X.1.2.1
  unfold fX5_passIt at hf
  refine lv_iconst (pc := 0) (v := (ii 0)) hx hb dX5_passIt_0 (by decide) ?_
  refine lv_istore_n (pc := 1) (lv' := [(1, .int (ii 0)), (0, .ref x0)]) hx hb dX5_passIt_1 rfl hl (by decide) rfl (fun ls hl => ?_)
  refine lv_iconst (pc := 2) (v := (ii 0)) hx hb dX5_passIt_2 (by decide) ?_
  refine lv_istore_n (pc := 3) (lv' := [(2, .int (ii 0)), (1, .int (ii 0)), (0, .ref x0)]) hx hb dX5_passIt_3 rfl hl (by decide) rfl (fun ls hl => ?_)
  exact wX5_passIt_b4 X hr nf hf V (lv_sub hl [2, 1, 0] rfl)
theorem mX5_passIt {nf : Nat} (l : Launch) (D : va_G) (dA : Nat → ClassId) (s0 : Nat) {T : xT} {N : xT} {Z : Nat} {I : xI} {L : xL} {R : xR} {x0 : Nat} {ro : Int32} {Io : xI} {Lo : xL} (hf : fX5_passIt nf T N I L R x0 = some (ro, Io, Lo)) : XMet l D dA s0 yX5_passIt (ws_ yX5_passIt cX5_passIt 3 ((some .int))) (8) (191) [.ref x0] T N Z I L R (some (.int ro)) T N Z Io Lo R 0 0 :=
  x_start (own := RX5) rfl (by decide) (Nat.le_of_ble_eq_true rfl) (lv := [(0, .ref x0)]) rfl (fun p e s m below meth c ls X hr hini V hl => wX5_passIt_e X hr hf V hl)
set_option maxHeartbeats 400000 in
set_option maxRecDepth 100000 in
theorem wX5_passNow_e {nf : Nat} {p : Program} {l : Launch} {e : Env} {s : State} {m : MethodId} {args : Array Value} {below : List Frame} {meth : Method} {c : Code} {D : va_G} {dA : Nat → ClassId} {s0 : Nat} {T : xT} {N : xT} {Z : Nat} {I : xI} {L : xL} {R : xR} {H : Heap} {locs : List Loc} {ls : Array Slot} {x0 : Nat} {ro : Int32} {Io : xI} {Lo : xL} (X : Cx D dA s0 p m c cX5_passNow 1 s args RX5 meth) (hr : meth.sig.returnType = (some .int)) (hf : fX5_passNow nf T N I L R x0 = some (ro, Io, Lo)) (V : Iv D dA s0 s T N Z I L R H locs) (hl : lv_has ls 1 [(0, .ref x0)]) : W p l e { frames := 9, cells := 0, slots := 0, locals := 213 } s m args below meth c H locs 0 0 (MQ below (xQ D dA s0 (some (.int ro)) T N Z Io Lo R) args s 0 0 (fun q => s0 ≤ q)) (F0 m 0 ls []) := by
  have hx := X.1.1
  have hb := X.1.2.1
  unfold fX5_passNow at hf
  refine lv_aload_n (pc := 0) hx hb dX5_passNow_0 rfl (lv_at hl 0 rfl) ?_
  replace hf := tg_s hf; obtain ⟨ht1, hf⟩ := hf
  replace hf := bs hf; obtain ⟨a2, ha2, hf⟩ := hf
  refine x_get (pc := 1) X V okX5 ht1 3 (by decide) q1524 (v := va_rf (R x0 3)) rfl dX5_passNow_1 ?_
  refine x_topr ha2 ?_
  refine lv_iconst (pc := 4) (v := (ii 5)) hx hb dX5_passNow_4 (by decide) ?_
  replace hf := rA_s hf; obtain ⟨j3, hjj3, htj3, hij3, hf⟩ := hf
  refine x_iald (pc := 5) X V htj3 hij3 hjj3 dX5_passNow_5 ?_
  refine lv_sipush (pc := 6) (v := (ii 999)) hx hb dX5_passNow_6 (by decide) ?_
  refine lv_icmp_ne (pc := 9) (tgt := 15) hx hb dX5_passNow_9 (by decide) (fun c4 => ?_) (fun c4 => ?_)
  · replace hf := if_f hf c4
    refine lv_aload_n (pc := 15) hx hb dX5_passNow_15 rfl (lv_at hl 0 rfl) ?_
    refine lv_iconst (pc := 16) (v := (ii 3)) hx hb dX5_passNow_16 (by decide) ?_
    replace hf := bs hf; obtain ⟨I5, hk_6, hf⟩ := hf
    refine x_callV0 (pc := 17) (As := [.int (ii 3)]) (rest := []) X V (mX5_remember l D dA s0 hk_6) okX5 ht1 q1977 q1979 qs88 q129 q1980 ⟨rfl, hsX5_remember⟩ ⟨Nat.le_of_ble_eq_true rfl, Nat.le_of_ble_eq_true rfl⟩ rfl hl.1 rfl (Nat.le_of_ble_eq_true rfl) dX5_passNow_17 ⟨Nat.zero_le _, Nat.zero_le _⟩ (fun H locs V => W.eq (g2 := F0 m 20 ls []) rfl ?_)
    refine lv_aload_n (pc := 20) hx hb dX5_passNow_20 rfl (lv_at hl 0 rfl) ?_
    replace hf := b3s hf; obtain ⟨r7, I8, L9, hk_10, hf⟩ := hf
    refine x_callV0 (pc := 21) (As := []) (rest := []) X V (mX5_passIt l D dA s0 hk_10) okX5 ht1 q2021 q2023 qs96 q129 q2024 ⟨rfl, hsX5_passIt⟩ ⟨Nat.le_of_ble_eq_true rfl, Nat.le_of_ble_eq_true rfl⟩ rfl hl.1 rfl (Nat.le_of_ble_eq_true rfl) dX5_passNow_21 ⟨Nat.zero_le _, Nat.zero_le _⟩ (fun H locs V => W.eq (g2 := F0 m 24 ls [.int r7]) rfl ?_)
    cases hf
    exact x_iret (pc := 24) X V hr dX5_passNow_24
  · replace hf := if_t hf c4
    refine lv_bipush (pc := 12) (v := (-3 : Int32)) hx hb dX5_passNow_12 (by decide) ?_
    cases hf
    exact x_iret (pc := 14) X V hr dX5_passNow_14
theorem mX5_passNow {nf : Nat} (l : Launch) (D : va_G) (dA : Nat → ClassId) (s0 : Nat) {T : xT} {N : xT} {Z : Nat} {I : xI} {L : xL} {R : xR} {x0 : Nat} {ro : Int32} {Io : xI} {Lo : xL} (hf : fX5_passNow nf T N I L R x0 = some (ro, Io, Lo)) : XMet l D dA s0 yX5_passNow (ws_ yX5_passNow cX5_passNow 1 ((some .int))) (9) (213) [.ref x0] T N Z I L R (some (.int ro)) T N Z Io Lo R 0 0 :=
  x_start (own := RX5) rfl (by decide) (Nat.le_of_ble_eq_true rfl) (lv := [(0, .ref x0)]) rfl (fun p e s m below meth c ls X hr hini V hl => wX5_passNow_e X hr hf V hl)
set_option maxHeartbeats 400000 in
set_option maxRecDepth 100000 in
theorem wX5_pass_e {nf : Nat} {p : Program} {l : Launch} {e : Env} {s : State} {m : MethodId} {args : Array Value} {below : List Frame} {meth : Method} {c : Code} {D : va_G} {dA : Nat → ClassId} {s0 : Nat} {T : xT} {N : xT} {Z : Nat} {I : xI} {L : xL} {R : xR} {H : Heap} {locs : List Loc} {ls : Array Slot} {x0 : Nat} {ro : Int32} {Io : xI} {Lo : xL} (X : Cx D dA s0 p m c cX5_pass 1 s args RX5 meth) (hr : meth.sig.returnType = (some .int)) (hf : fX5_pass nf T N I L R x0 = some (ro, Io, Lo)) (V : Iv D dA s0 s T N Z I L R H locs) (hl : lv_has ls 1 [(0, .ref x0)]) : W p l e { frames := 10, cells := 0, slots := 0, locals := 233 } s m args below meth c H locs 0 0 (MQ below (xQ D dA s0 (some (.int ro)) T N Z Io Lo R) args s 0 0 (fun q => s0 ≤ q)) (F0 m 0 ls []) := by
  have hx := X.1.1
  have hb := X.1.2.1
  unfold fX5_pass at hf
  refine lv_aload_n (pc := 0) hx hb dX5_pass_0 rfl (lv_at hl 0 rfl) ?_
  refine lv_iconst (pc := 1) (v := (ii 0)) hx hb dX5_pass_1 (by decide) ?_
  replace hf := tg_s hf; obtain ⟨ht1, hf⟩ := hf
  replace hf := nm_s hf; obtain ⟨I2, hI2, hf⟩ := hf
  refine x_puti (pc := 2) X V okX5 (by decide) ht1 0 (by decide) q1521 (Or.inl rfl) hI2 (fun _ _ _ => rfl) rfl rfl dX5_pass_2 (fun H locs V => ?_)
  refine lv_aload_n (pc := 5) hx hb dX5_pass_5 rfl (lv_at hl 0 rfl) ?_
  refine lv_aload_n (pc := 6) hx hb dX5_pass_6 rfl (lv_at hl 0 rfl) ?_
  replace hf := b3s hf; obtain ⟨r3, I4, L5, hk_6, hf⟩ := hf
  refine x_callV0 (pc := 7) (As := []) (rest := [.ref x0]) X V (mX5_passNow l D dA s0 hk_6) okX5 ht1 q2017 q2019 qs95 q129 q2020 ⟨rfl, hsX5_passNow⟩ ⟨Nat.le_of_ble_eq_true rfl, Nat.le_of_ble_eq_true rfl⟩ rfl hl.1 rfl (Nat.le_of_ble_eq_true rfl) dX5_pass_7 ⟨Nat.zero_le _, Nat.zero_le _⟩ (fun H locs V => W.eq (g2 := F0 m 10 ls [.int r3, .ref x0]) rfl ?_)
  replace hf := b2s hf; obtain ⟨r7, I8, hk_9, hf⟩ := hf
  refine x_callV0 (pc := 10) (As := [.int r3]) (rest := []) X V (mX5_tell l D dA s0 hk_9) okX5 ht1 q1701 q1703 qs45 q129 q1704 ⟨rfl, hsX5_tell⟩ ⟨Nat.le_of_ble_eq_true rfl, Nat.le_of_ble_eq_true rfl⟩ rfl hl.1 rfl (Nat.le_of_ble_eq_true rfl) dX5_pass_10 ⟨Nat.zero_le _, Nat.zero_le _⟩ (fun H locs V => W.eq (g2 := F0 m 13 ls [.int r7]) rfl ?_)
  cases hf
  exact x_iret (pc := 13) X V hr dX5_pass_13
theorem mX5_pass {nf : Nat} (l : Launch) (D : va_G) (dA : Nat → ClassId) (s0 : Nat) {T : xT} {N : xT} {Z : Nat} {I : xI} {L : xL} {R : xR} {x0 : Nat} {ro : Int32} {Io : xI} {Lo : xL} (hf : fX5_pass nf T N I L R x0 = some (ro, Io, Lo)) : XMet l D dA s0 yX5_pass (ws_ yX5_pass cX5_pass 1 ((some .int))) (10) (233) [.ref x0] T N Z I L R (some (.int ro)) T N Z Io Lo R 0 0 :=
  x_start (own := RX5) rfl (by decide) (Nat.le_of_ble_eq_true rfl) (lv := [(0, .ref x0)]) rfl (fun p e s m below meth c ls X hr hini V hl => wX5_pass_e X hr hf V hl)
set_option maxHeartbeats 400000 in
set_option maxRecDepth 100000 in
theorem wX5_where_b35 {nf : Nat} {p : Program} {l : Launch} {e : Env} {s : State} {m : MethodId} {args : Array Value} {below : List Frame} {meth : Method} {c : Code} {D : va_G} {dA : Nat → ClassId} {s0 : Nat} {T : xT} {N : xT} {Z : Nat} {R : xR}  {ro : Int32} {Io : xI} {Lo : xL} (X : Cx D dA s0 p m c cX5_where 4 s args RX5 meth) (hr : meth.sig.returnType = (some .int))   (k : Nat) : ∀ {I : xI} {L : xL} {x0 : Nat} {x1 : Int32} {x2 : Int32} {x3 : Int32} {H : Heap} {locs : List Loc} {ls : Array Slot} , fX5_where_b35 nf T N R k I L x0 x1 x2 x3 = some (ro, Io, Lo) → Iv D dA s0 s T N Z I L R H locs → lv_has ls 4 [(0, .ref x0), (1, .int x1), (2, .int x2), (3, .int x3)] → W p l e { frames := 9, cells := 0, slots := 0, locals := 213 } s m args below meth c H locs 0 0 (MQ below (xQ D dA s0 (some (.int ro)) T N Z Io Lo R) args s 0 0 (fun q => s0 ≤ q)) (F0 m 35 ls []) := by
  have hx := X.1.1
  have hb := X.1.2.1
  induction k with
  | zero =>
    intro I L x0 x1 x2 x3 H locs ls hf V hl
    exact absurd (show none = some _ from hf) (fun q => nomatch q)
  | succ k ih =>
    intro I L x0 x1 x2 x3 H locs ls hf V hl
    rw [fX5_where_b35] at hf
    refine lv_iload_n (pc := 35) hx hb dX5_where_35 rfl (lv_at hl 3 rfl) ?_
    refine lv_iload_n (pc := 36) hx hb dX5_where_36 rfl (lv_at hl 2 rfl) ?_
    refine lv_icmp_ge (pc := 37) (tgt := 51) hx hb dX5_where_37 (by decide) (fun c1 => ?_) (fun c1 => ?_)
    · replace hf := if_t hf c1
      refine lv_aload_n (pc := 51) hx hb dX5_where_51 rfl (lv_at hl 0 rfl) ?_
      replace hf := tg_s hf; obtain ⟨ht2, hf⟩ := hf
      replace hf := bs hf; obtain ⟨a3, ha3, hf⟩ := hf
      refine x_get (pc := 52) X V okX5 ht2 3 (by decide) q1524 (v := va_rf (R x0 3)) rfl dX5_where_52 ?_
      refine x_topr ha3 ?_
      refine lv_bipush (pc := 55) (v := (ii 18)) hx hb dX5_where_55 (by decide) ?_
      refine lv_iload_n (pc := 57) hx hb dX5_where_57 rfl (lv_at hl 1 rfl) ?_
      refine lv_iadd (pc := 58) hx hb dX5_where_58 ?_
      replace hf := rA_s hf; obtain ⟨j4, hjj4, htj4, hij4, hf⟩ := hf
      refine x_iald (pc := 59) X V htj4 hij4 hjj4 dX5_where_59 ?_
      replace hf := nm_s hf; obtain ⟨u5, hu5, hf⟩ := hf
      refine x_topi hu5 ?_
      refine lv_istore_n (pc := 60) (lv' := [(3, .int u5), (0, .ref x0), (1, .int x1), (2, .int x2)]) hx hb dX5_where_60 rfl hl (by decide) rfl (fun ls hl => ?_)
      refine lv_aload_n (pc := 61) hx hb dX5_where_61 rfl (lv_at hl 1 rfl) ?_
      refine lv_bipush (pc := 62) (v := (ii 16)) hx hb dX5_where_62 (by decide) ?_
      replace hf := bs hf; obtain ⟨I6, hk_7, hf⟩ := hf
      refine x_callV0 (pc := 64) (As := [.int (ii 16)]) (rest := []) X V (mX5_putBack l D dA s0 hk_7) okX5 ht2 q1705 q1707 qs46 q129 q1708 ⟨rfl, hsX5_putBack⟩ ⟨Nat.le_of_ble_eq_true rfl, Nat.le_of_ble_eq_true rfl⟩ rfl hl.1 rfl (Nat.le_of_ble_eq_true rfl) dX5_where_64 ⟨Nat.zero_le _, Nat.zero_le _⟩ (fun H locs V => W.eq (g2 := F0 m 67 ls []) rfl ?_)
      refine lv_iload_n (pc := 67) hx hb dX5_where_67 rfl (lv_at hl 0 rfl) ?_
      cases hf
      exact x_iret (pc := 68) X V hr dX5_where_68
    · replace hf := if_f hf c1
      refine lv_aload_n (pc := 40) hx hb dX5_where_40 rfl (lv_at hl 0 rfl) ?_
      replace hf := tg_s hf; obtain ⟨ht12, hf⟩ := hf
      replace hf := b3s hf; obtain ⟨r8, I9, L10, hk_11, hf⟩ := hf
      refine x_callV0 (pc := 41) (As := []) (rest := []) X V (mX5_passIt l D dA s0 hk_11) okX5 ht12 q2021 q2023 qs96 q129 q2024 ⟨rfl, hsX5_passIt⟩ ⟨Nat.le_of_ble_eq_true rfl, Nat.le_of_ble_eq_true rfl⟩ rfl hl.1 rfl (Nat.le_of_ble_eq_true rfl) dX5_where_41 ⟨Nat.zero_le _, Nat.zero_le _⟩ (fun H locs V => W.eq (g2 := F0 m 44 ls [.int r8]) rfl ?_)
      refine lv_pop (pc := 44) hx hb dX5_where_44 rfl ?_
      replace hf := nm_s hf; obtain ⟨u13, hu13, hf⟩ := hf
      refine lv_iinc (pc := 45) (v := u13) (lv' := [(3, .int u13), (0, .ref x0), (1, .int x1), (2, .int x2)]) hx hb dX5_where_45 hl (k := 3) rfl (by rw [hu13]; rfl) (by decide) rfl (fun ls hl => ?_)
      refine lv_goto (pc := 48) (tgt := 35) hx hb dX5_where_48 (by decide) ?_
      exact ih hf V (lv_sub hl [1, 2, 3, 0] rfl)
set_option maxHeartbeats 400000 in
set_option maxRecDepth 100000 in
theorem wX5_where_e {nf : Nat} {p : Program} {l : Launch} {e : Env} {s : State} {m : MethodId} {args : Array Value} {below : List Frame} {meth : Method} {c : Code} {D : va_G} {dA : Nat → ClassId} {s0 : Nat} {T : xT} {N : xT} {Z : Nat} {I : xI} {L : xL} {R : xR} {H : Heap} {locs : List Loc} {ls : Array Slot} {x0 : Nat} {x1 : Int32} {x2 : Int32} {ro : Int32} {Io : xI} {Lo : xL} (X : Cx D dA s0 p m c cX5_where 4 s args RX5 meth) (hr : meth.sig.returnType = (some .int)) (hf : fX5_where nf T N I L R x0 x1 x2 = some (ro, Io, Lo)) (V : Iv D dA s0 s T N Z I L R H locs) (hl : lv_has ls 4 [(0, .ref x0), (1, .int x1), (2, .int x2)]) : W p l e { frames := 9, cells := 0, slots := 0, locals := 213 } s m args below meth c H locs 0 0 (MQ below (xQ D dA s0 (some (.int ro)) T N Z Io Lo R) args s 0 0 (fun q => s0 ≤ q)) (F0 m 0 ls []) := by
  have hx := X.1.1
  have hb := X.1.2.1
  unfold fX5_where at hf
  refine lv_aload_n (pc := 0) hx hb dX5_where_0 rfl (lv_at hl 0 rfl) ?_
  refine lv_iconst (pc := 1) (v := (ii 0)) hx hb dX5_where_1 (by decide) ?_
  replace hf := tg_s hf; obtain ⟨ht1, hf⟩ := hf
  replace hf := nm_s hf; obtain ⟨I2, hI2, hf⟩ := hf
  refine x_puti (pc := 2) X V okX5 (by decide) ht1 0 (by decide) q1521 (Or.inl rfl) hI2 (fun _ _ _ => rfl) rfl rfl dX5_where_2 (fun H locs V => ?_)
  refine lv_aload_n (pc := 5) hx hb dX5_where_5 rfl (lv_at hl 0 rfl) ?_
  refine lv_iload_n (pc := 6) hx hb dX5_where_6 rfl (lv_at hl 1 rfl) ?_
  replace hf := bs hf; obtain ⟨r3, hk_4, hf⟩ := hf
  refine x_callV0 (pc := 7) (As := [.int x1]) (rest := []) X V (mX5_isChild l D dA s0 hk_4) okX5 ht1 q1754 q1756 qs50 q129 q1757 ⟨rfl, hsX5_isChild⟩ ⟨Nat.le_of_ble_eq_true rfl, Nat.le_of_ble_eq_true rfl⟩ rfl hl.1 rfl (Nat.le_of_ble_eq_true rfl) dX5_where_7 ⟨Nat.zero_le _, Nat.zero_le _⟩ (fun H locs V => W.eq (g2 := F0 m 10 ls [.int r3]) rfl ?_)
  refine lv_if_eq (pc := 10) (tgt := 25) hx hb dX5_where_10 (by decide) (fun c5 => ?_) (fun c5 => ?_)
  · replace hf := if_t hf c5
    refine lv_iconst (pc := 25) (v := (-1 : Int32)) hx hb dX5_where_25 (by decide) ?_
    cases hf
    exact x_iret (pc := 26) X V hr dX5_where_26
  · replace hf := if_f hf c5
    refine lv_iload_n (pc := 13) hx hb dX5_where_13 rfl (lv_at hl 2 rfl) ?_
    refine lv_i2l (pc := 14) hx hb dX5_where_14 rfl ?_
    refine lv_lconst (pc := 15) (v := (jj 0)) hx hb dX5_where_15 (by decide) ?_
    refine lv_ldc2 (pc := 16) (v := (jj 60)) hx hb X.1.2.2.2.1 (X.1.2.2.2.2 _ q2029) dX5_where_16 ?_
    replace hf := bs hf; obtain ⟨r6, hk_7, hf⟩ := hf
    refine x_callS0 (pc := 19) (As := [.long ((x2).toInt64), .long (jj 0), .long (jj 60)]) (rest := []) X V (mX5_in l D dA s0 hk_7) q1713 q1714 q129 q1715 hsX5_in ⟨Nat.le_of_ble_eq_true rfl, Nat.le_of_ble_eq_true rfl⟩ rfl hl.1 rfl (Nat.le_of_ble_eq_true rfl) dX5_where_19 ⟨Nat.zero_le _, Nat.zero_le _⟩ (fun H locs V => W.eq (g2 := F0 m 22 ls [.int r6]) rfl ?_)
    refine lv_if_ne (pc := 22) (tgt := 27) hx hb dX5_where_22 (by decide) (fun c8 => ?_) (fun c8 => ?_)
    · replace hf := if_f hf c8
      refine lv_aload_n (pc := 27) hx hb dX5_where_27 rfl (lv_at hl 0 rfl) ?_
      refine lv_bipush (pc := 28) (v := (ii 16)) hx hb dX5_where_28 (by decide) ?_
      replace hf := bs hf; obtain ⟨I9, hk_10, hf⟩ := hf
      refine x_callV0 (pc := 30) (As := [.int (ii 16)]) (rest := []) X V (mX5_keepAll l D dA s0 hk_10) okX5 ht1 q1981 q1983 qs89 q129 q1984 ⟨rfl, hsX5_keepAll⟩ ⟨Nat.le_of_ble_eq_true rfl, Nat.le_of_ble_eq_true rfl⟩ rfl hl.1 rfl (Nat.le_of_ble_eq_true rfl) dX5_where_30 ⟨Nat.zero_le _, Nat.zero_le _⟩ (fun H locs V => W.eq (g2 := F0 m 33 ls []) rfl ?_)
      refine lv_iconst (pc := 33) (v := (ii 0)) hx hb dX5_where_33 (by decide) ?_
      refine lv_istore_n (pc := 34) (lv' := [(3, .int (ii 0)), (0, .ref x0), (1, .int x1), (2, .int x2)]) hx hb dX5_where_34 rfl hl (by decide) rfl (fun ls hl => ?_)
      exact wX5_where_b35 X hr nf hf V (lv_sub hl [1, 2, 3, 0] rfl)
    · replace hf := if_t hf c8
      refine lv_iconst (pc := 25) (v := (-1 : Int32)) hx hb dX5_where_25 (by decide) ?_
      cases hf
      exact x_iret (pc := 26) X V hr dX5_where_26
theorem mX5_where {nf : Nat} (l : Launch) (D : va_G) (dA : Nat → ClassId) (s0 : Nat) {T : xT} {N : xT} {Z : Nat} {I : xI} {L : xL} {R : xR} {x0 : Nat} {x1 : Int32} {x2 : Int32} {ro : Int32} {Io : xI} {Lo : xL} (hf : fX5_where nf T N I L R x0 x1 x2 = some (ro, Io, Lo)) : XMet l D dA s0 yX5_where (ws_ yX5_where cX5_where 4 ((some .int))) (9) (213) [.ref x0, .int x1, .int x2] T N Z I L R (some (.int ro)) T N Z Io Lo R 0 0 :=
  x_start (own := RX5) rfl (by decide) (Nat.le_of_ble_eq_true rfl) (lv := [(0, .ref x0), (1, .int x1), (2, .int x2)]) rfl (fun p e s m below meth c ls X hr hini V hl => wX5_where_e X hr hf V hl)
set_option maxHeartbeats 400000 in
set_option maxRecDepth 100000 in
theorem wX5_layFar_b170 {nf : Nat} {p : Program} {l : Launch} {e : Env} {s : State} {m : MethodId} {args : Array Value} {below : List Frame} {meth : Method} {c : Code} {D : va_G} {dA : Nat → ClassId} {s0 : Nat} {T : xT} {N : xT} {Z : Nat} {L : xL} {R : xR} {kk154 : xI → Nat → Int32 → Option (xI)} {kk162 : xI → Nat → Int32 → Int32 → Option (xI)} {Io : xI} (X : Cx D dA s0 p m c cX5_layFar 5 s args RX5 meth) (hr : meth.sig.returnType = none) (hk154 : ∀ {I : xI} {x0 : Nat} {x1 : Int32} {H : Heap} {locs : List Loc} {ls : Array Slot} , kk154 I x0 x1 = some Io → Iv D dA s0 s T N Z I L R H locs → lv_has ls 5 [(0, .ref x0), (1, .int x1)] → W p l e { frames := 0, cells := 0, slots := 0, locals := 0 } s m args below meth c H locs 0 0 (MQ below (xQ D dA s0 none T N Z Io L R) args s 0 0 (fun q => s0 ≤ q)) (F0 m 154 ls [])) (hk162 : ∀ {I : xI} {x0 : Nat} {x1 : Int32} {x2 : Int32} {H : Heap} {locs : List Loc} {ls : Array Slot} , kk162 I x0 x1 x2 = some Io → Iv D dA s0 s T N Z I L R H locs → lv_has ls 5 [(0, .ref x0), (1, .int x1), (2, .int x2)] → W p l e { frames := 0, cells := 0, slots := 0, locals := 0 } s m args below meth c H locs 0 0 (MQ below (xQ D dA s0 none T N Z Io L R) args s 0 0 (fun q => s0 ≤ q)) (F0 m 162 ls []))  (k : Nat) : ∀ {I : xI} {x0 : Nat} {x1 : Int32} {x2 : Int32} {x3 : Int32} {H : Heap} {locs : List Loc} {ls : Array Slot} , fX5_layFar_b170 nf kk154 kk162 T N R k I x0 x1 x2 x3 = some Io → Iv D dA s0 s T N Z I L R H locs → lv_has ls 5 [(0, .ref x0), (1, .int x1), (2, .int x2), (3, .int x3)] → W p l e { frames := 0, cells := 0, slots := 0, locals := 0 } s m args below meth c H locs 0 0 (MQ below (xQ D dA s0 none T N Z Io L R) args s 0 0 (fun q => s0 ≤ q)) (F0 m 170 ls []) := by
  have hx := X.1.1
  have hb := X.1.2.1
  induction k with
  | zero =>
    intro I x0 x1 x2 x3 H locs ls hf V hl
    exact absurd (show none = some _ from hf) (fun q => nomatch q)
  | succ k ih =>
    intro I x0 x1 x2 x3 H locs ls hf V hl
    rw [fX5_layFar_b170] at hf
    refine lv_iload_n (pc := 170) hx hb dX5_layFar_170 rfl (lv_at hl 3 rfl) ?_
    refine lv_bipush (pc := 171) (v := (ii 8)) hx hb dX5_layFar_171 (by decide) ?_
    refine lv_icmp_ge (pc := 173) (tgt := 250) hx hb dX5_layFar_173 (by decide) (fun c1 => ?_) (fun c1 => ?_)
    · replace hf := if_t hf c1
      replace hf := nm_s hf; obtain ⟨u2, hu2, hf⟩ := hf
      refine lv_iinc (pc := 250) (v := u2) (lv' := [(2, .int u2), (0, .ref x0), (1, .int x1), (3, .int x3)]) hx hb dX5_layFar_250 hl (k := 2) rfl (by rw [hu2]; rfl) (by decide) rfl (fun ls hl => ?_)
      refine lv_goto (pc := 253) (tgt := 162) hx hb dX5_layFar_253 (by decide) ?_
      exact hk162 hf V (lv_sub hl [1, 2, 0] rfl)
    · replace hf := if_f hf c1
      refine lv_aload_n (pc := 176) hx hb dX5_layFar_176 rfl (lv_at hl 0 rfl) ?_
      replace hf := tg_s hf; obtain ⟨ht3, hf⟩ := hf
      replace hf := bs hf; obtain ⟨a4, ha4, hf⟩ := hf
      refine x_get (pc := 177) X V okX5 ht3 42 (by decide) q1563 (v := va_rf (R x0 42)) rfl dX5_layFar_177 ?_
      refine x_topr ha4 ?_
      refine lv_bipush (pc := 180) (v := (ii 8)) hx hb dX5_layFar_180 (by decide) ?_
      refine lv_iload_n (pc := 182) hx hb dX5_layFar_182 rfl (lv_at hl 2 rfl) ?_
      refine lv_imul (pc := 183) hx hb dX5_layFar_183 ?_
      refine lv_iload_n (pc := 184) hx hb dX5_layFar_184 rfl (lv_at hl 1 rfl) ?_
      refine lv_iadd (pc := 185) hx hb dX5_layFar_185 ?_
      replace hf := rA_s hf; obtain ⟨j5, hjj5, htj5, hij5, hf⟩ := hf
      refine x_iald (pc := 186) X V htj5 hij5 hjj5 dX5_layFar_186 ?_
      refine lv_aload_n (pc := 187) hx hb dX5_layFar_187 rfl (lv_at hl 0 rfl) ?_
      refine x_get (pc := 188) X V okX5 ht3 42 (by decide) q1563 (v := va_rf (R x0 42)) rfl dX5_layFar_188 ?_
      refine x_topr ha4 ?_
      refine lv_bipush (pc := 191) (v := (ii 8)) hx hb dX5_layFar_191 (by decide) ?_
      refine lv_iload_n (pc := 193) hx hb dX5_layFar_193 rfl (lv_at hl 1 rfl) ?_
      refine lv_imul (pc := 194) hx hb dX5_layFar_194 ?_
      refine lv_iload_n (pc := 195) hx hb dX5_layFar_195 rfl (lv_at hl 3 rfl) ?_
      refine lv_iadd (pc := 196) hx hb dX5_layFar_196 ?_
      replace hf := rA_s hf; obtain ⟨j6, hjj6, htj6, hij6, hf⟩ := hf
      refine x_iald (pc := 197) X V htj6 hij6 hjj6 dX5_layFar_197 ?_
      refine lv_iadd (pc := 198) hx hb dX5_layFar_198 ?_
      replace hf := nm_s hf; obtain ⟨u7, hu7, hf⟩ := hf
      refine x_topi hu7 ?_
      refine lv_istore (pc := 199) (lv' := [(4, .int u7), (0, .ref x0), (1, .int x1), (2, .int x2), (3, .int x3)]) hx hb dX5_layFar_199 hl (by decide) rfl (fun ls hl => ?_)
      refine lv_aload_n (pc := 201) hx hb dX5_layFar_201 rfl (lv_at hl 1 rfl) ?_
      refine x_get (pc := 202) X V okX5 ht3 42 (by decide) q1563 (v := va_rf (R x0 42)) rfl dX5_layFar_202 ?_
      refine x_topr ha4 ?_
      refine lv_bipush (pc := 205) (v := (ii 8)) hx hb dX5_layFar_205 (by decide) ?_
      refine lv_iload_n (pc := 207) hx hb dX5_layFar_207 rfl (lv_at hl 3 rfl) ?_
      refine lv_imul (pc := 208) hx hb dX5_layFar_208 ?_
      refine lv_iload_n (pc := 209) hx hb dX5_layFar_209 rfl (lv_at hl 4 rfl) ?_
      refine lv_iadd (pc := 210) hx hb dX5_layFar_210 ?_
      refine lv_iload (pc := 211) hx hb dX5_layFar_211 (lv_at hl 0 rfl) ?_
      refine lv_aload_n (pc := 213) hx hb dX5_layFar_213 rfl (lv_at hl 1 rfl) ?_
      refine x_get (pc := 214) X V okX5 ht3 42 (by decide) q1563 (v := va_rf (R x0 42)) rfl dX5_layFar_214 ?_
      refine x_topr ha4 ?_
      refine lv_bipush (pc := 217) (v := (ii 8)) hx hb dX5_layFar_217 (by decide) ?_
      refine lv_iload_n (pc := 219) hx hb dX5_layFar_219 rfl (lv_at hl 3 rfl) ?_
      refine lv_imul (pc := 220) hx hb dX5_layFar_220 ?_
      refine lv_iload_n (pc := 221) hx hb dX5_layFar_221 rfl (lv_at hl 4 rfl) ?_
      refine lv_iadd (pc := 222) hx hb dX5_layFar_222 ?_
      replace hf := rA_s hf; obtain ⟨j8, hjj8, htj8, hij8, hf⟩ := hf
      refine x_iald (pc := 223) X V htj8 hij8 hjj8 dX5_layFar_223 ?_
      refine lv_icmp_ge (pc := 224) (tgt := 232) hx hb dX5_layFar_224 (by decide) (fun c9 => ?_) (fun c9 => ?_)
      · replace hf := if_t hf c9
        refine lv_aload_n (pc := 232) hx hb dX5_layFar_232 rfl (lv_at hl 1 rfl) ?_
        refine x_get (pc := 233) X V okX5 ht3 42 (by decide) q1563 (v := va_rf (R x0 42)) rfl dX5_layFar_233 ?_
        refine x_topr ha4 ?_
        refine lv_bipush (pc := 236) (v := (ii 8)) hx hb dX5_layFar_236 (by decide) ?_
        refine lv_iload_n (pc := 238) hx hb dX5_layFar_238 rfl (lv_at hl 3 rfl) ?_
        refine lv_imul (pc := 239) hx hb dX5_layFar_239 ?_
        refine lv_iload_n (pc := 240) hx hb dX5_layFar_240 rfl (lv_at hl 4 rfl) ?_
        refine lv_iadd (pc := 241) hx hb dX5_layFar_241 ?_
        refine x_iald (pc := 242) X V htj8 hij8 hjj8 dX5_layFar_242 ?_
        replace hf := nm_s hf; obtain ⟨I10, hI10, hf⟩ := hf
        refine x_iast (pc := 243) X V htj8 hij8 hjj8 hI10 dX5_layFar_243 (fun H locs V => ?_)
        replace hf := nm_s hf; obtain ⟨u11, hu11, hf⟩ := hf
        refine lv_iinc (pc := 244) (v := u11) (lv' := [(3, .int u11), (4, .int u7), (0, .ref x0), (1, .int x1), (2, .int x2)]) hx hb dX5_layFar_244 hl (k := 4) rfl (by rw [hu11]; rfl) (by decide) rfl (fun ls hl => ?_)
        refine lv_goto (pc := 247) (tgt := 170) hx hb dX5_layFar_247 (by decide) ?_
        exact ih hf V (lv_sub hl [2, 3, 4, 0] rfl)
      · replace hf := if_f hf c9
        refine lv_iload (pc := 227) hx hb dX5_layFar_227 (lv_at hl 0 rfl) ?_
        refine lv_goto (pc := 229) (tgt := 243) hx hb dX5_layFar_229 (by decide) ?_
        replace hf := nm_s hf; obtain ⟨I12, hI12, hf⟩ := hf
        refine x_iast (pc := 243) X V htj8 hij8 hjj8 hI12 dX5_layFar_243 (fun H locs V => ?_)
        replace hf := nm_s hf; obtain ⟨u13, hu13, hf⟩ := hf
        refine lv_iinc (pc := 244) (v := u13) (lv' := [(3, .int u13), (4, .int u7), (0, .ref x0), (1, .int x1), (2, .int x2)]) hx hb dX5_layFar_244 hl (k := 4) rfl (by rw [hu13]; rfl) (by decide) rfl (fun ls hl => ?_)
        refine lv_goto (pc := 247) (tgt := 170) hx hb dX5_layFar_247 (by decide) ?_
        exact ih hf V (lv_sub hl [2, 3, 4, 0] rfl)
set_option maxHeartbeats 400000 in
set_option maxRecDepth 100000 in
theorem wX5_layFar_b162 {nf : Nat} {p : Program} {l : Launch} {e : Env} {s : State} {m : MethodId} {args : Array Value} {below : List Frame} {meth : Method} {c : Code} {D : va_G} {dA : Nat → ClassId} {s0 : Nat} {T : xT} {N : xT} {Z : Nat} {L : xL} {R : xR} {kk154 : xI → Nat → Int32 → Option (xI)} {Io : xI} (X : Cx D dA s0 p m c cX5_layFar 5 s args RX5 meth) (hr : meth.sig.returnType = none) (hk154 : ∀ {I : xI} {x0 : Nat} {x1 : Int32} {H : Heap} {locs : List Loc} {ls : Array Slot} , kk154 I x0 x1 = some Io → Iv D dA s0 s T N Z I L R H locs → lv_has ls 5 [(0, .ref x0), (1, .int x1)] → W p l e { frames := 0, cells := 0, slots := 0, locals := 0 } s m args below meth c H locs 0 0 (MQ below (xQ D dA s0 none T N Z Io L R) args s 0 0 (fun q => s0 ≤ q)) (F0 m 154 ls []))  (k : Nat) : ∀ {I : xI} {x0 : Nat} {x1 : Int32} {x2 : Int32} {H : Heap} {locs : List Loc} {ls : Array Slot} , fX5_layFar_b162 nf kk154 T N R k I x0 x1 x2 = some Io → Iv D dA s0 s T N Z I L R H locs → lv_has ls 5 [(0, .ref x0), (1, .int x1), (2, .int x2)] → W p l e { frames := 0, cells := 0, slots := 0, locals := 0 } s m args below meth c H locs 0 0 (MQ below (xQ D dA s0 none T N Z Io L R) args s 0 0 (fun q => s0 ≤ q)) (F0 m 162 ls []) := by
  have hx := X.1.1
  have hb := X.1.2.1
  induction k with
  | zero =>
    intro I x0 x1 x2 H locs ls hf V hl
    exact absurd (show none = some _ from hf) (fun q => nomatch q)
  | succ k ih =>
    intro I x0 x1 x2 H locs ls hf V hl
    rw [fX5_layFar_b162] at hf
    refine lv_iload_n (pc := 162) hx hb dX5_layFar_162 rfl (lv_at hl 2 rfl) ?_
    refine lv_bipush (pc := 163) (v := (ii 8)) hx hb dX5_layFar_163 (by decide) ?_
    refine lv_icmp_ge (pc := 165) (tgt := 256) hx hb dX5_layFar_165 (by decide) (fun c1 => ?_) (fun c1 => ?_)
    · replace hf := if_t hf c1
      replace hf := nm_s hf; obtain ⟨u2, hu2, hf⟩ := hf
      refine lv_iinc (pc := 256) (v := u2) (lv' := [(1, .int u2), (0, .ref x0), (2, .int x2)]) hx hb dX5_layFar_256 hl (k := 1) rfl (by rw [hu2]; rfl) (by decide) rfl (fun ls hl => ?_)
      refine lv_goto (pc := 259) (tgt := 154) hx hb dX5_layFar_259 (by decide) ?_
      exact hk154 hf V (lv_sub hl [1, 0] rfl)
    · replace hf := if_f hf c1
      refine lv_iconst (pc := 168) (v := (ii 0)) hx hb dX5_layFar_168 (by decide) ?_
      refine lv_istore_n (pc := 169) (lv' := [(3, .int (ii 0)), (0, .ref x0), (1, .int x1), (2, .int x2)]) hx hb dX5_layFar_169 rfl hl (by decide) rfl (fun ls hl => ?_)
      exact wX5_layFar_b170 X hr hk154 ih nf hf V (lv_sub hl [1, 2, 3, 0] rfl)
set_option maxHeartbeats 400000 in
set_option maxRecDepth 100000 in
theorem wX5_layFar_b154 {nf : Nat} {p : Program} {l : Launch} {e : Env} {s : State} {m : MethodId} {args : Array Value} {below : List Frame} {meth : Method} {c : Code} {D : va_G} {dA : Nat → ClassId} {s0 : Nat} {T : xT} {N : xT} {Z : Nat} {L : xL} {R : xR}  {Io : xI} (X : Cx D dA s0 p m c cX5_layFar 5 s args RX5 meth) (hr : meth.sig.returnType = none)   (k : Nat) : ∀ {I : xI} {x0 : Nat} {x1 : Int32} {H : Heap} {locs : List Loc} {ls : Array Slot} , fX5_layFar_b154 nf T N R k I x0 x1 = some Io → Iv D dA s0 s T N Z I L R H locs → lv_has ls 5 [(0, .ref x0), (1, .int x1)] → W p l e { frames := 0, cells := 0, slots := 0, locals := 0 } s m args below meth c H locs 0 0 (MQ below (xQ D dA s0 none T N Z Io L R) args s 0 0 (fun q => s0 ≤ q)) (F0 m 154 ls []) := by
  have hx := X.1.1
  have hb := X.1.2.1
  induction k with
  | zero =>
    intro I x0 x1 H locs ls hf V hl
    exact absurd (show none = some _ from hf) (fun q => nomatch q)
  | succ k ih =>
    intro I x0 x1 H locs ls hf V hl
    rw [fX5_layFar_b154] at hf
    refine lv_iload_n (pc := 154) hx hb dX5_layFar_154 rfl (lv_at hl 1 rfl) ?_
    refine lv_bipush (pc := 155) (v := (ii 8)) hx hb dX5_layFar_155 (by decide) ?_
    refine lv_icmp_ge (pc := 157) (tgt := 262) hx hb dX5_layFar_157 (by decide) (fun c1 => ?_) (fun c1 => ?_)
    · replace hf := if_t hf c1
      cases hf
      exact x_vret (pc := 262) X V hr dX5_layFar_262
    · replace hf := if_f hf c1
      refine lv_iconst (pc := 160) (v := (ii 0)) hx hb dX5_layFar_160 (by decide) ?_
      refine lv_istore_n (pc := 161) (lv' := [(2, .int (ii 0)), (0, .ref x0), (1, .int x1)]) hx hb dX5_layFar_161 rfl hl (by decide) rfl (fun ls hl => ?_)
      exact wX5_layFar_b162 X hr ih nf hf V (lv_sub hl [1, 2, 0] rfl)
set_option maxHeartbeats 400000 in
set_option maxRecDepth 100000 in
theorem wX5_layFar_b123 {nf : Nat} {p : Program} {l : Launch} {e : Env} {s : State} {m : MethodId} {args : Array Value} {below : List Frame} {meth : Method} {c : Code} {D : va_G} {dA : Nat → ClassId} {s0 : Nat} {T : xT} {N : xT} {Z : Nat} {I : xI} {L : xL} {R : xR} {H : Heap} {locs : List Loc} {ls : Array Slot} {kk40 : xI → Nat → Int32 → Option (xI)} {x0 : Nat} {x1 : Int32} {x2 : Int32} {x3 : Int32} {z0 : Nat} {z1 : Int32} {z2 : Int32} {Io : xI} (X : Cx D dA s0 p m c cX5_layFar 5 s args RX5 meth) (hr : meth.sig.returnType = none) (hk40 : ∀ {I : xI} {x0 : Nat} {x1 : Int32} {H : Heap} {locs : List Loc} {ls : Array Slot} , kk40 I x0 x1 = some Io → Iv D dA s0 s T N Z I L R H locs → lv_has ls 5 [(0, .ref x0), (1, .int x1)] → W p l e { frames := 0, cells := 0, slots := 0, locals := 0 } s m args below meth c H locs 0 0 (MQ below (xQ D dA s0 none T N Z Io L R) args s 0 0 (fun q => s0 ≤ q)) (F0 m 40 ls []))  (hf : fX5_layFar_b123 nf kk40 T N I R x0 x1 x2 x3 z0 z1 z2 = some Io) (V : Iv D dA s0 s T N Z I L R H locs) (hl : lv_has ls 5 [(0, .ref x0), (1, .int x1), (2, .int x2), (3, .int x3)]) : W p l e { frames := 0, cells := 0, slots := 0, locals := 0 } s m args below meth c H locs 0 0 (MQ below (xQ D dA s0 none T N Z Io L R) args s 0 0 (fun q => s0 ≤ q)) (F0 m 123 ls [.int z2, .int z1, .ref z0]) := by
  have hx := X.1.1
  have hb := X.1.2.1
  unfold fX5_layFar_b123 at hf
  replace hf := rA_s hf; obtain ⟨j1, hjj1, htj1, hij1, hf⟩ := hf
  replace hf := nm_s hf; obtain ⟨I2, hI2, hf⟩ := hf
  refine x_iast (pc := 123) X V htj1 hij1 hjj1 hI2 dX5_layFar_123 (fun H locs V => ?_)
  refine lv_aload_n (pc := 124) hx hb dX5_layFar_124 rfl (lv_at hl 0 rfl) ?_
  replace hf := tg_s hf; obtain ⟨ht3, hf⟩ := hf
  replace hf := bs hf; obtain ⟨a4, ha4, hf⟩ := hf
  refine x_get (pc := 125) X V okX5 ht3 42 (by decide) q1563 (v := va_rf (R x0 42)) rfl dX5_layFar_125 ?_
  refine x_topr ha4 ?_
  refine lv_bipush (pc := 128) (v := (ii 8)) hx hb dX5_layFar_128 (by decide) ?_
  refine lv_iload_n (pc := 130) hx hb dX5_layFar_130 rfl (lv_at hl 3 rfl) ?_
  refine lv_imul (pc := 131) hx hb dX5_layFar_131 ?_
  refine lv_iload_n (pc := 132) hx hb dX5_layFar_132 rfl (lv_at hl 2 rfl) ?_
  refine lv_iadd (pc := 133) hx hb dX5_layFar_133 ?_
  refine lv_aload_n (pc := 134) hx hb dX5_layFar_134 rfl (lv_at hl 0 rfl) ?_
  refine x_get (pc := 135) X V okX5 ht3 42 (by decide) q1563 (v := va_rf (R x0 42)) rfl dX5_layFar_135 ?_
  refine x_topr ha4 ?_
  refine lv_bipush (pc := 138) (v := (ii 8)) hx hb dX5_layFar_138 (by decide) ?_
  refine lv_iload_n (pc := 140) hx hb dX5_layFar_140 rfl (lv_at hl 2 rfl) ?_
  refine lv_imul (pc := 141) hx hb dX5_layFar_141 ?_
  refine lv_iload_n (pc := 142) hx hb dX5_layFar_142 rfl (lv_at hl 3 rfl) ?_
  refine lv_iadd (pc := 143) hx hb dX5_layFar_143 ?_
  replace hf := rA_s hf; obtain ⟨j5, hjj5, htj5, hij5, hf⟩ := hf
  refine x_iald (pc := 144) X V htj5 hij5 hjj5 dX5_layFar_144 ?_
  replace hf := rA_s hf; obtain ⟨j6, hjj6, htj6, hij6, hf⟩ := hf
  replace hf := nm_s hf; obtain ⟨I7, hI7, hf⟩ := hf
  refine x_iast (pc := 145) X V htj6 hij6 hjj6 hI7 dX5_layFar_145 (fun H locs V => ?_)
  replace hf := nm_s hf; obtain ⟨u8, hu8, hf⟩ := hf
  refine lv_iinc (pc := 146) (v := u8) (lv' := [(1, .int u8), (0, .ref x0), (2, .int x2), (3, .int x3)]) hx hb dX5_layFar_146 hl (k := 1) rfl (by rw [hu8]; rfl) (by decide) rfl (fun ls hl => ?_)
  refine lv_goto (pc := 149) (tgt := 40) hx hb dX5_layFar_149 (by decide) ?_
  exact hk40 hf V (lv_sub hl [1, 0] rfl)
set_option maxHeartbeats 400000 in
set_option maxRecDepth 100000 in
theorem wX5_layFar_b40 {nf : Nat} {p : Program} {l : Launch} {e : Env} {s : State} {m : MethodId} {args : Array Value} {below : List Frame} {meth : Method} {c : Code} {D : va_G} {dA : Nat → ClassId} {s0 : Nat} {T : xT} {N : xT} {Z : Nat} {L : xL} {R : xR}  {Io : xI} (X : Cx D dA s0 p m c cX5_layFar 5 s args RX5 meth) (hr : meth.sig.returnType = none)   (k : Nat) : ∀ {I : xI} {x0 : Nat} {x1 : Int32} {H : Heap} {locs : List Loc} {ls : Array Slot} , fX5_layFar_b40 nf T N R k I x0 x1 = some Io → Iv D dA s0 s T N Z I L R H locs → lv_has ls 5 [(0, .ref x0), (1, .int x1)] → W p l e { frames := 0, cells := 0, slots := 0, locals := 0 } s m args below meth c H locs 0 0 (MQ below (xQ D dA s0 none T N Z Io L R) args s 0 0 (fun q => s0 ≤ q)) (F0 m 40 ls []) := by
  have hx := X.1.1
  have hb := X.1.2.1
  induction k with
  | zero =>
    intro I x0 x1 H locs ls hf V hl
    exact absurd (show none = some _ from hf) (fun q => nomatch q)
  | succ k ih =>
    intro I x0 x1 H locs ls hf V hl
    rw [fX5_layFar_b40] at hf
    refine lv_iload_n (pc := 40) hx hb dX5_layFar_40 rfl (lv_at hl 1 rfl) ?_
    refine lv_aload_n (pc := 41) hx hb dX5_layFar_41 rfl (lv_at hl 0 rfl) ?_
    replace hf := tg_s hf; obtain ⟨ht1, hf⟩ := hf
    replace hf := bs hf; obtain ⟨a2, ha2, hf⟩ := hf
    refine x_get (pc := 42) X V okX5 ht1 3 (by decide) q1524 (v := va_rf (R x0 3)) rfl dX5_layFar_42 ?_
    refine x_topr ha2 ?_
    refine lv_iconst (pc := 45) (v := (ii 0)) hx hb dX5_layFar_45 (by decide) ?_
    replace hf := rA_s hf; obtain ⟨j3, hjj3, htj3, hij3, hf⟩ := hf
    refine x_iald (pc := 46) X V htj3 hij3 hjj3 dX5_layFar_46 ?_
    refine lv_icmp_ge (pc := 47) (tgt := 152) hx hb dX5_layFar_47 (by decide) (fun c4 => ?_) (fun c4 => ?_)
    · replace hf := if_t hf c4
      refine lv_iconst (pc := 152) (v := (ii 0)) hx hb dX5_layFar_152 (by decide) ?_
      refine lv_istore_n (pc := 153) (lv' := [(1, .int (ii 0)), (0, .ref x0)]) hx hb dX5_layFar_153 rfl hl (by decide) rfl (fun ls hl => ?_)
      exact wX5_layFar_b154 X hr nf hf V (lv_sub hl [1, 0] rfl)
    · replace hf := if_f hf c4
      refine lv_aload_n (pc := 50) hx hb dX5_layFar_50 rfl (lv_at hl 0 rfl) ?_
      refine x_get (pc := 51) X V okX5 ht1 3 (by decide) q1524 (v := va_rf (R x0 3)) rfl dX5_layFar_51 ?_
      refine x_topr ha2 ?_
      refine lv_bipush (pc := 54) (v := (ii 26)) hx hb dX5_layFar_54 (by decide) ?_
      refine lv_iload_n (pc := 56) hx hb dX5_layFar_56 rfl (lv_at hl 1 rfl) ?_
      refine lv_iadd (pc := 57) hx hb dX5_layFar_57 ?_
      replace hf := rA_s hf; obtain ⟨j5, hjj5, htj5, hij5, hf⟩ := hf
      refine x_iald (pc := 58) X V htj5 hij5 hjj5 dX5_layFar_58 ?_
      replace hf := nm_s hf; obtain ⟨u6, hu6, hf⟩ := hf
      refine x_topi hu6 ?_
      refine lv_istore_n (pc := 59) (lv' := [(2, .int u6), (0, .ref x0), (1, .int x1)]) hx hb dX5_layFar_59 rfl hl (by decide) rfl (fun ls hl => ?_)
      refine lv_aload_n (pc := 60) hx hb dX5_layFar_60 rfl (lv_at hl 1 rfl) ?_
      refine x_get (pc := 61) X V okX5 ht1 3 (by decide) q1524 (v := va_rf (R x0 3)) rfl dX5_layFar_61 ?_
      refine x_topr ha2 ?_
      refine lv_bipush (pc := 64) (v := (ii 36)) hx hb dX5_layFar_64 (by decide) ?_
      refine lv_iload_n (pc := 66) hx hb dX5_layFar_66 rfl (lv_at hl 2 rfl) ?_
      refine lv_iadd (pc := 67) hx hb dX5_layFar_67 ?_
      replace hf := rA_s hf; obtain ⟨j7, hjj7, htj7, hij7, hf⟩ := hf
      refine x_iald (pc := 68) X V htj7 hij7 hjj7 dX5_layFar_68 ?_
      replace hf := nm_s hf; obtain ⟨u8, hu8, hf⟩ := hf
      refine x_topi hu8 ?_
      refine lv_istore_n (pc := 69) (lv' := [(3, .int u8), (2, .int u6), (0, .ref x0), (1, .int x1)]) hx hb dX5_layFar_69 rfl hl (by decide) rfl (fun ls hl => ?_)
      refine lv_aload_n (pc := 70) hx hb dX5_layFar_70 rfl (lv_at hl 2 rfl) ?_
      refine x_get (pc := 71) X V okX5 ht1 3 (by decide) q1524 (v := va_rf (R x0 3)) rfl dX5_layFar_71 ?_
      refine x_topr ha2 ?_
      refine lv_bipush (pc := 74) (v := (ii 46)) hx hb dX5_layFar_74 (by decide) ?_
      refine lv_iload_n (pc := 76) hx hb dX5_layFar_76 rfl (lv_at hl 3 rfl) ?_
      refine lv_iadd (pc := 77) hx hb dX5_layFar_77 ?_
      replace hf := rA_s hf; obtain ⟨j9, hjj9, htj9, hij9, hf⟩ := hf
      refine x_iald (pc := 78) X V htj9 hij9 hjj9 dX5_layFar_78 ?_
      replace hf := nm_s hf; obtain ⟨u10, hu10, hf⟩ := hf
      refine x_topi hu10 ?_
      refine lv_istore (pc := 79) (lv' := [(4, .int u10), (3, .int u8), (2, .int u6), (0, .ref x0), (1, .int x1)]) hx hb dX5_layFar_79 hl (by decide) rfl (fun ls hl => ?_)
      refine lv_aload_n (pc := 81) hx hb dX5_layFar_81 rfl (lv_at hl 3 rfl) ?_
      replace hf := bs hf; obtain ⟨a11, ha11, hf⟩ := hf
      refine x_get (pc := 82) X V okX5 ht1 42 (by decide) q1563 (v := va_rf (R x0 42)) rfl dX5_layFar_82 ?_
      refine x_topr ha11 ?_
      refine lv_bipush (pc := 85) (v := (ii 8)) hx hb dX5_layFar_85 (by decide) ?_
      refine lv_iload_n (pc := 87) hx hb dX5_layFar_87 rfl (lv_at hl 2 rfl) ?_
      refine lv_imul (pc := 88) hx hb dX5_layFar_88 ?_
      refine lv_iload_n (pc := 89) hx hb dX5_layFar_89 rfl (lv_at hl 1 rfl) ?_
      refine lv_iadd (pc := 90) hx hb dX5_layFar_90 ?_
      refine lv_iload (pc := 91) hx hb dX5_layFar_91 (lv_at hl 0 rfl) ?_
      refine lv_aload_n (pc := 93) hx hb dX5_layFar_93 rfl (lv_at hl 3 rfl) ?_
      refine x_get (pc := 94) X V okX5 ht1 42 (by decide) q1563 (v := va_rf (R x0 42)) rfl dX5_layFar_94 ?_
      refine x_topr ha11 ?_
      refine lv_bipush (pc := 97) (v := (ii 8)) hx hb dX5_layFar_97 (by decide) ?_
      refine lv_iload_n (pc := 99) hx hb dX5_layFar_99 rfl (lv_at hl 2 rfl) ?_
      refine lv_imul (pc := 100) hx hb dX5_layFar_100 ?_
      refine lv_iload_n (pc := 101) hx hb dX5_layFar_101 rfl (lv_at hl 1 rfl) ?_
      refine lv_iadd (pc := 102) hx hb dX5_layFar_102 ?_
      replace hf := rA_s hf; obtain ⟨j12, hjj12, htj12, hij12, hf⟩ := hf
      refine x_iald (pc := 103) X V htj12 hij12 hjj12 dX5_layFar_103 ?_
      refine lv_icmp_ge (pc := 104) (tgt := 112) hx hb dX5_layFar_104 (by decide) (fun c13 => ?_) (fun c13 => ?_)
      · replace hf := if_t hf c13
        refine lv_aload_n (pc := 112) hx hb dX5_layFar_112 rfl (lv_at hl 3 rfl) ?_
        refine x_get (pc := 113) X V okX5 ht1 42 (by decide) q1563 (v := va_rf (R x0 42)) rfl dX5_layFar_113 ?_
        refine x_topr ha11 ?_
        refine lv_bipush (pc := 116) (v := (ii 8)) hx hb dX5_layFar_116 (by decide) ?_
        refine lv_iload_n (pc := 118) hx hb dX5_layFar_118 rfl (lv_at hl 2 rfl) ?_
        refine lv_imul (pc := 119) hx hb dX5_layFar_119 ?_
        refine lv_iload_n (pc := 120) hx hb dX5_layFar_120 rfl (lv_at hl 1 rfl) ?_
        refine lv_iadd (pc := 121) hx hb dX5_layFar_121 ?_
        refine x_iald (pc := 122) X V htj12 hij12 hjj12 dX5_layFar_122 ?_
        exact wX5_layFar_b123 X hr ih hf V (lv_sub hl [3, 4, 2, 1] rfl)
      · replace hf := if_f hf c13
        refine lv_iload (pc := 107) hx hb dX5_layFar_107 (lv_at hl 0 rfl) ?_
        refine lv_goto (pc := 109) (tgt := 123) hx hb dX5_layFar_109 (by decide) ?_
        exact wX5_layFar_b123 X hr ih hf V (lv_sub hl [3, 4, 2, 1] rfl)
set_option maxHeartbeats 400000 in
set_option maxRecDepth 100000 in
theorem wX5_layFar_b2 {nf : Nat} {p : Program} {l : Launch} {e : Env} {s : State} {m : MethodId} {args : Array Value} {below : List Frame} {meth : Method} {c : Code} {D : va_G} {dA : Nat → ClassId} {s0 : Nat} {T : xT} {N : xT} {Z : Nat} {L : xL} {R : xR}  {Io : xI} (X : Cx D dA s0 p m c cX5_layFar 5 s args RX5 meth) (hr : meth.sig.returnType = none)   (k : Nat) : ∀ {I : xI} {x0 : Nat} {x1 : Int32} {H : Heap} {locs : List Loc} {ls : Array Slot} , fX5_layFar_b2 nf T N R k I x0 x1 = some Io → Iv D dA s0 s T N Z I L R H locs → lv_has ls 5 [(0, .ref x0), (1, .int x1)] → W p l e { frames := 0, cells := 0, slots := 0, locals := 0 } s m args below meth c H locs 0 0 (MQ below (xQ D dA s0 none T N Z Io L R) args s 0 0 (fun q => s0 ≤ q)) (F0 m 2 ls []) := by
  have hx := X.1.1
  have hb := X.1.2.1
  induction k with
  | zero =>
    intro I x0 x1 H locs ls hf V hl
    exact absurd (show none = some _ from hf) (fun q => nomatch q)
  | succ k ih =>
    intro I x0 x1 H locs ls hf V hl
    rw [fX5_layFar_b2] at hf
    refine lv_iload_n (pc := 2) hx hb dX5_layFar_2 rfl (lv_at hl 1 rfl) ?_
    refine lv_bipush (pc := 3) (v := (ii 64)) hx hb dX5_layFar_3 (by decide) ?_
    refine lv_icmp_ge (pc := 5) (tgt := 38) hx hb dX5_layFar_5 (by decide) (fun c1 => ?_) (fun c1 => ?_)
    · replace hf := if_t hf c1
      refine lv_iconst (pc := 38) (v := (ii 0)) hx hb dX5_layFar_38 (by decide) ?_
      refine lv_istore_n (pc := 39) (lv' := [(1, .int (ii 0)), (0, .ref x0)]) hx hb dX5_layFar_39 rfl hl (by decide) rfl (fun ls hl => ?_)
      exact wX5_layFar_b40 X hr nf hf V (lv_sub hl [1, 0] rfl)
    · replace hf := if_f hf c1
      refine lv_aload_n (pc := 8) hx hb dX5_layFar_8 rfl (lv_at hl 0 rfl) ?_
      replace hf := tg_s hf; obtain ⟨ht2, hf⟩ := hf
      replace hf := bs hf; obtain ⟨a3, ha3, hf⟩ := hf
      refine x_get (pc := 9) X V okX5 ht2 42 (by decide) q1563 (v := va_rf (R x0 42)) rfl dX5_layFar_9 ?_
      refine x_topr ha3 ?_
      refine lv_iload_n (pc := 12) hx hb dX5_layFar_12 rfl (lv_at hl 1 rfl) ?_
      refine lv_iload_n (pc := 13) hx hb dX5_layFar_13 rfl (lv_at hl 1 rfl) ?_
      refine lv_bipush (pc := 14) (v := (ii 8)) hx hb dX5_layFar_14 (by decide) ?_
      refine lv_idiv (pc := 16) hx hb dX5_layFar_16 (by decide) ?_
      refine lv_iload_n (pc := 17) hx hb dX5_layFar_17 rfl (lv_at hl 1 rfl) ?_
      refine lv_bipush (pc := 18) (v := (ii 8)) hx hb dX5_layFar_18 (by decide) ?_
      refine lv_irem (pc := 20) hx hb dX5_layFar_20 (by decide) ?_
      refine lv_icmp_ne (pc := 21) (tgt := 28) hx hb dX5_layFar_21 (by decide) (fun c4 => ?_) (fun c4 => ?_)
      · replace hf := if_f hf c4
        refine lv_ldcw (pc := 28) (v := (ii 100000000)) hx hb X.1.2.2.2.1 (X.1.2.2.2.2 _ q2038) dX5_layFar_28 ?_
        replace hf := rA_s hf; obtain ⟨j5, hjj5, htj5, hij5, hf⟩ := hf
        replace hf := nm_s hf; obtain ⟨I6, hI6, hf⟩ := hf
        refine x_iast (pc := 31) X V htj5 hij5 hjj5 hI6 dX5_layFar_31 (fun H locs V => ?_)
        replace hf := nm_s hf; obtain ⟨u7, hu7, hf⟩ := hf
        refine lv_iinc (pc := 32) (v := u7) (lv' := [(1, .int u7), (0, .ref x0)]) hx hb dX5_layFar_32 hl (k := 1) rfl (by rw [hu7]; rfl) (by decide) rfl (fun ls hl => ?_)
        refine lv_goto (pc := 35) (tgt := 2) hx hb dX5_layFar_35 (by decide) ?_
        exact ih hf V (lv_sub hl [1, 0] rfl)
      · replace hf := if_t hf c4
        refine lv_iconst (pc := 24) (v := (ii 0)) hx hb dX5_layFar_24 (by decide) ?_
        refine lv_goto (pc := 25) (tgt := 31) hx hb dX5_layFar_25 (by decide) ?_
        replace hf := rA_s hf; obtain ⟨j8, hjj8, htj8, hij8, hf⟩ := hf
        replace hf := nm_s hf; obtain ⟨I9, hI9, hf⟩ := hf
        refine x_iast (pc := 31) X V htj8 hij8 hjj8 hI9 dX5_layFar_31 (fun H locs V => ?_)
        replace hf := nm_s hf; obtain ⟨u10, hu10, hf⟩ := hf
        refine lv_iinc (pc := 32) (v := u10) (lv' := [(1, .int u10), (0, .ref x0)]) hx hb dX5_layFar_32 hl (k := 1) rfl (by rw [hu10]; rfl) (by decide) rfl (fun ls hl => ?_)
        refine lv_goto (pc := 35) (tgt := 2) hx hb dX5_layFar_35 (by decide) ?_
        exact ih hf V (lv_sub hl [1, 0] rfl)
set_option maxHeartbeats 400000 in
set_option maxRecDepth 100000 in
theorem wX5_layFar_e {nf : Nat} {p : Program} {l : Launch} {e : Env} {s : State} {m : MethodId} {args : Array Value} {below : List Frame} {meth : Method} {c : Code} {D : va_G} {dA : Nat → ClassId} {s0 : Nat} {T : xT} {N : xT} {Z : Nat} {I : xI} {L : xL} {R : xR} {H : Heap} {locs : List Loc} {ls : Array Slot} {x0 : Nat} {Io : xI} (X : Cx D dA s0 p m c cX5_layFar 5 s args RX5 meth) (hr : meth.sig.returnType = none) (hf : fX5_layFar nf T N I R x0 = some Io) (V : Iv D dA s0 s T N Z I L R H locs) (hl : lv_has ls 5 [(0, .ref x0)]) : W p l e { frames := 0, cells := 0, slots := 0, locals := 0 } s m args below meth c H locs 0 0 (MQ below (xQ D dA s0 none T N Z Io L R) args s 0 0 (fun q => s0 ≤ q)) (F0 m 0 ls []) := by
  have hx := X.1.1
  have hb := X.1.2.1
  unfold fX5_layFar at hf
  refine lv_iconst (pc := 0) (v := (ii 0)) hx hb dX5_layFar_0 (by decide) ?_
  refine lv_istore_n (pc := 1) (lv' := [(1, .int (ii 0)), (0, .ref x0)]) hx hb dX5_layFar_1 rfl hl (by decide) rfl (fun ls hl => ?_)
  exact wX5_layFar_b2 X hr nf hf V (lv_sub hl [1, 0] rfl)
theorem mX5_layFar {nf : Nat} (l : Launch) (D : va_G) (dA : Nat → ClassId) (s0 : Nat) {T : xT} {N : xT} {Z : Nat} {I : xI} {L : xL} {R : xR} {x0 : Nat} {Io : xI} (hf : fX5_layFar nf T N I R x0 = some Io) : XMet l D dA s0 yX5_layFar (ws_ yX5_layFar cX5_layFar 5 (none)) (0) (0) [.ref x0] T N Z I L R none T N Z Io L R 0 0 :=
  x_start (own := RX5) rfl (by decide) (Nat.le_of_ble_eq_true rfl) (lv := [(0, .ref x0)]) rfl (fun p e s m below meth c ls X hr hini V hl => wX5_layFar_e X hr hf V hl)
set_option maxHeartbeats 400000 in
set_option maxRecDepth 100000 in
theorem wX5_farOf_e {p : Program} {l : Launch} {e : Env} {s : State} {m : MethodId} {args : Array Value} {below : List Frame} {meth : Method} {c : Code} {D : va_G} {dA : Nat → ClassId} {s0 : Nat} {T : xT} {N : xT} {Z : Nat} {I : xI} {L : xL} {R : xR} {H : Heap} {locs : List Loc} {ls : Array Slot} {x0 : Nat} {x1 : Int32} {x2 : Int32} {ro : Int32} (X : Cx D dA s0 p m c cX5_farOf 3 s args RX5 meth) (hr : meth.sig.returnType = (some .int)) (hf : fX5_farOf T N I R x0 x1 x2 = some ro) (V : Iv D dA s0 s T N Z I L R H locs) (hl : lv_has ls 3 [(0, .ref x0), (1, .int x1), (2, .int x2)]) : W p l e { frames := 0, cells := 0, slots := 0, locals := 0 } s m args below meth c H locs 0 0 (MQ below (xQ D dA s0 (some (.int ro)) T N Z I L R) args s 0 0 (fun q => s0 ≤ q)) (F0 m 0 ls []) := by
  have hx := X.1.1
  have hb := X.1.2.1
  unfold fX5_farOf at hf
  refine lv_aload_n (pc := 0) hx hb dX5_farOf_0 rfl (lv_at hl 0 rfl) ?_
  replace hf := tg_s hf; obtain ⟨ht1, hf⟩ := hf
  replace hf := bs hf; obtain ⟨a2, ha2, hf⟩ := hf
  refine x_get (pc := 1) X V okX5 ht1 42 (by decide) q1563 (v := va_rf (R x0 42)) rfl dX5_farOf_1 ?_
  refine x_topr ha2 ?_
  refine lv_bipush (pc := 4) (v := (ii 8)) hx hb dX5_farOf_4 (by decide) ?_
  refine lv_iload_n (pc := 6) hx hb dX5_farOf_6 rfl (lv_at hl 1 rfl) ?_
  refine lv_imul (pc := 7) hx hb dX5_farOf_7 ?_
  refine lv_iload_n (pc := 8) hx hb dX5_farOf_8 rfl (lv_at hl 2 rfl) ?_
  refine lv_iadd (pc := 9) hx hb dX5_farOf_9 ?_
  replace hf := rA_s hf; obtain ⟨j3, hjj3, htj3, hij3, hf⟩ := hf
  refine x_iald (pc := 10) X V htj3 hij3 hjj3 dX5_farOf_10 ?_
  refine lv_ldcw (pc := 11) (v := (ii 100000000)) hx hb X.1.2.2.2.1 (X.1.2.2.2.2 _ q2038) dX5_farOf_11 ?_
  refine lv_icmp_lt (pc := 14) (tgt := 23) hx hb dX5_farOf_14 (by decide) (fun c4 => ?_) (fun c4 => ?_)
  · replace hf := if_t hf c4
    refine lv_aload_n (pc := 23) hx hb dX5_farOf_23 rfl (lv_at hl 0 rfl) ?_
    refine x_get (pc := 24) X V okX5 ht1 42 (by decide) q1563 (v := va_rf (R x0 42)) rfl dX5_farOf_24 ?_
    refine x_topr ha2 ?_
    refine lv_bipush (pc := 27) (v := (ii 8)) hx hb dX5_farOf_27 (by decide) ?_
    refine lv_iload_n (pc := 29) hx hb dX5_farOf_29 rfl (lv_at hl 1 rfl) ?_
    refine lv_imul (pc := 30) hx hb dX5_farOf_30 ?_
    refine lv_iload_n (pc := 31) hx hb dX5_farOf_31 rfl (lv_at hl 2 rfl) ?_
    refine lv_iadd (pc := 32) hx hb dX5_farOf_32 ?_
    refine x_iald (pc := 33) X V htj3 hij3 hjj3 dX5_farOf_33 ?_
    cases hf
    exact x_iret (pc := 34) X V hr dX5_farOf_34
  · replace hf := if_f hf c4
    refine lv_ldcw (pc := 17) (v := (ii 100000000)) hx hb X.1.2.2.2.1 (X.1.2.2.2.2 _ q2038) dX5_farOf_17 ?_
    refine lv_goto (pc := 20) (tgt := 34) hx hb dX5_farOf_20 (by decide) ?_
    cases hf
    exact x_iret (pc := 34) X V hr dX5_farOf_34
theorem mX5_farOf (l : Launch) (D : va_G) (dA : Nat → ClassId) (s0 : Nat) {T : xT} {N : xT} {Z : Nat} {I : xI} {L : xL} {R : xR} {x0 : Nat} {x1 : Int32} {x2 : Int32} {ro : Int32} (hf : fX5_farOf T N I R x0 x1 x2 = some ro) : XMet l D dA s0 yX5_farOf (ws_ yX5_farOf cX5_farOf 3 ((some .int))) (0) (0) [.ref x0, .int x1, .int x2] T N Z I L R (some (.int ro)) T N Z I L R 0 0 :=
  x_start (own := RX5) rfl (by decide) (Nat.le_of_ble_eq_true rfl) (lv := [(0, .ref x0), (1, .int x1), (2, .int x2)]) rfl (fun p e s m below meth c ls X hr hini V hl => wX5_farOf_e X hr hf V hl)
