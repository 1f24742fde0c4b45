set_option maxHeartbeats 400000 in
set_option maxRecDepth 100000 in
theorem wX5_inner_b4 {nf : Nat} {p : Program} {l : Launch} {e : Env} {s : State} {m : MethodId} {args : Array Value} {below : List Frame} {meth : Method} {c : Code} {D : va_G} {dA : Nat → ClassId} {s0 : Nat} {T : xT} {N : xT} {Z : Nat} {I : xI} {L : xL} {R : xR}  {ro : Int32} (X : Cx D dA s0 p m c cX5_inner 3 s args RX5 meth) (hr : meth.sig.returnType = (some .int))   (k : Nat) : ∀ {x0 : Nat} {x1 : Int32} {x2 : Int32} {H : Heap} {locs : List Loc} {ls : Array Slot} , fX5_inner_b4 nf T N I R k x0 x1 x2 = some ro → Iv D dA s0 s T N Z I L R H locs → lv_has ls 3 [(0, .ref x0), (1, .int x1), (2, .int x2)] → W p l e { frames := 0, cells := 0, slots := 0, locals := 0 } s m args below meth c H locs 0 0 (MQ below (xQ D dA s0 (some (.int ro)) T N Z I L R) args s 0 0 (fun q => s0 ≤ q)) (F0 m 4 ls []) := by
  have hx := X.1.1
  have hb := X.1.2.1
  induction k with
  | zero =>
    intro x0 x1 x2 H locs ls hf V hl
    exact absurd (show none = some _ from hf) (fun q => nomatch q)
  | succ k ih =>
    intro x0 x1 x2 H locs ls hf V hl
    rw [fX5_inner_b4] at hf
    refine lv_iload_n (pc := 4) hx hb dX5_inner_4 rfl (lv_at hl 2 rfl) ?_
    refine lv_aload_n (pc := 5) hx hb dX5_inner_5 rfl (lv_at hl 0 rfl) ?_
    replace hf := tg_s hf; obtain ⟨ht1, hf⟩ := hf
    refine x_get (pc := 6) X V okX5 ht1 29 (by decide) q1550 (v := .int (I x0 29)) rfl dX5_inner_6 ?_
    refine lv_icmp_ge (pc := 9) (tgt := 40) hx hb dX5_inner_9 (by decide) (fun c2 => ?_) (fun c2 => ?_)
    · replace hf := if_t hf c2
      refine lv_iload_n (pc := 40) hx hb dX5_inner_40 rfl (lv_at hl 1 rfl) ?_
      cases hf
      exact x_iret (pc := 41) X V hr dX5_inner_41
    · replace hf := if_f hf c2
      refine lv_aload_n (pc := 12) hx hb dX5_inner_12 rfl (lv_at hl 0 rfl) ?_
      replace hf := bs hf; obtain ⟨a3, ha3, hf⟩ := hf
      refine x_get (pc := 13) X V okX5 ht1 27 (by decide) q1548 (v := va_rf (R x0 27)) rfl dX5_inner_13 ?_
      refine x_topr ha3 ?_
      refine lv_iload_n (pc := 16) hx hb dX5_inner_16 rfl (lv_at hl 2 rfl) ?_
      replace hf := rA_s hf; obtain ⟨j4, hjj4, htj4, hij4, hf⟩ := hf
      refine x_iald (pc := 17) X V htj4 hij4 hjj4 dX5_inner_17 ?_
      refine lv_bipush (pc := 18) (v := (ii 31)) hx hb dX5_inner_18 (by decide) ?_
      refine lv_icmp_lt (pc := 20) (tgt := 32) hx hb dX5_inner_20 (by decide) (fun c5 => ?_) (fun c5 => ?_)
      · replace hf := if_t hf c5
        refine lv_iload_n (pc := 32) hx hb dX5_inner_32 rfl (lv_at hl 1 rfl) ?_
        refine lv_istore_n (pc := 33) (lv' := [(1, .int x1), (0, .ref x0), (2, .int x2)]) hx hb dX5_inner_33 rfl hl (by decide) rfl (fun ls hl => ?_)
        replace hf := nm_s hf; obtain ⟨u6, hu6, hf⟩ := hf
        refine lv_iinc (pc := 34) (v := u6) (lv' := [(2, .int u6), (1, .int x1), (0, .ref x0)]) hx hb dX5_inner_34 hl (k := 2) rfl (by rw [hu6]; rfl) (by decide) rfl (fun ls hl => ?_)
        refine lv_goto (pc := 37) (tgt := 4) hx hb dX5_inner_37 (by decide) ?_
        exact ih hf V (lv_sub hl [2, 1, 0] rfl)
      · replace hf := if_f hf c5
        refine lv_aload_n (pc := 23) hx hb dX5_inner_23 rfl (lv_at hl 0 rfl) ?_
        refine x_get (pc := 24) X V okX5 ht1 27 (by decide) q1548 (v := va_rf (R x0 27)) rfl dX5_inner_24 ?_
        refine x_topr ha3 ?_
        refine lv_iload_n (pc := 27) hx hb dX5_inner_27 rfl (lv_at hl 2 rfl) ?_
        refine x_iald (pc := 28) X V htj4 hij4 hjj4 dX5_inner_28 ?_
        refine lv_goto (pc := 29) (tgt := 33) hx hb dX5_inner_29 (by decide) ?_
        replace hf := nm_s hf; obtain ⟨u7, hu7, hf⟩ := hf
        refine x_topi hu7 ?_
        refine lv_istore_n (pc := 33) (lv' := [(1, .int u7), (0, .ref x0), (2, .int x2)]) hx hb dX5_inner_33 rfl hl (by decide) rfl (fun ls hl => ?_)
        replace hf := nm_s hf; obtain ⟨u8, hu8, hf⟩ := hf
        refine lv_iinc (pc := 34) (v := u8) (lv' := [(2, .int u8), (1, .int u7), (0, .ref x0)]) hx hb dX5_inner_34 hl (k := 2) rfl (by rw [hu8]; rfl) (by decide) rfl (fun ls hl => ?_)
        refine lv_goto (pc := 37) (tgt := 4) hx hb dX5_inner_37 (by decide) ?_
        exact ih hf V (lv_sub hl [2, 1, 0] rfl)
set_option maxHeartbeats 400000 in
set_option maxRecDepth 100000 in
theorem wX5_inner_e {nf : Nat} {p : Program} {l : Launch} {e : Env} {s : State} {m : MethodId} {args : Array Value} {below : List Frame} {meth : Method} {c : Code} {D : va_G} {dA : Nat → ClassId} {s0 : Nat} {T : xT} {N : xT} {Z : Nat} {I : xI} {L : xL} {R : xR} {H : Heap} {locs : List Loc} {ls : Array Slot} {x0 : Nat} {ro : Int32} (X : Cx D dA s0 p m c cX5_inner 3 s args RX5 meth) (hr : meth.sig.returnType = (some .int)) (hf : fX5_inner nf T N I R x0 = some ro) (V : Iv D dA s0 s T N Z I L R H locs) (hl : lv_has ls 3 [(0, .ref x0)]) : W p l e { frames := 0, cells := 0, slots := 0, locals := 0 } s m args below meth c H locs 0 0 (MQ below (xQ D dA s0 (some (.int ro)) T N Z I L R) args s 0 0 (fun q => s0 ≤ q)) (F0 m 0 ls []) := by
  have hx := X.1.1
  have hb := X.1.2.1
  unfold fX5_inner at hf
  refine lv_iconst (pc := 0) (v := (-1 : Int32)) hx hb dX5_inner_0 (by decide) ?_
  refine lv_istore_n (pc := 1) (lv' := [(1, .int (-1 : Int32)), (0, .ref x0)]) hx hb dX5_inner_1 rfl hl (by decide) rfl (fun ls hl => ?_)
  refine lv_iconst (pc := 2) (v := (ii 0)) hx hb dX5_inner_2 (by decide) ?_
  refine lv_istore_n (pc := 3) (lv' := [(2, .int (ii 0)), (1, .int (-1 : Int32)), (0, .ref x0)]) hx hb dX5_inner_3 rfl hl (by decide) rfl (fun ls hl => ?_)
  exact wX5_inner_b4 X hr nf hf V (lv_sub hl [2, 1, 0] rfl)
theorem mX5_inner {nf : Nat} (l : Launch) (D : va_G) (dA : Nat → ClassId) (s0 : Nat) {T : xT} {N : xT} {Z : Nat} {I : xI} {L : xL} {R : xR} {x0 : Nat} {ro : Int32} (hf : fX5_inner nf T N I R x0 = some ro) : XMet l D dA s0 yX5_inner (ws_ yX5_inner cX5_inner 3 ((some .int))) (0) (0) [.ref x0] T N Z I L R (some (.int ro)) T N Z I L R 0 0 :=
  x_start (own := RX5) rfl (by decide) (Nat.le_of_ble_eq_true rfl) (lv := [(0, .ref x0)]) rfl (fun p e s m below meth c ls X hr hini V hl => wX5_inner_e X hr hf V hl)
set_option maxHeartbeats 400000 in
set_option maxRecDepth 100000 in
theorem wX5_isCompared_b36 {nf : Nat} {p : Program} {l : Launch} {e : Env} {s : State} {m : MethodId} {args : Array Value} {below : List Frame} {meth : Method} {c : Code} {D : va_G} {dA : Nat → ClassId} {s0 : Nat} {T : xT} {N : xT} {Z : Nat} {I : xI} {L : xL} {R : xR} {H : Heap} {locs : List Loc} {ls : Array Slot}  {x0 : Nat} {x1 : Int32} {ro : Int32} (X : Cx D dA s0 p m c cX5_isCompared 2 s args RX5 meth) (hr : meth.sig.returnType = (some .boolean))   (hf : fX5_isCompared_b36 nf T N I R x0 x1 = some ro) (V : Iv D dA s0 s T N Z I L R H locs) (hl : lv_has ls 2 [(0, .ref x0), (1, .int x1)]) : W p l e { frames := 1, cells := 0, slots := 0, locals := 25 } s m args below meth c H locs 0 0 (MQ below (xQ D dA s0 (some (.int ro)) T N Z I L R) args s 0 0 (fun q => s0 ≤ q)) (F0 m 36 ls []) := by
  have hx := X.1.1
  have hb := X.1.2.1
  unfold fX5_isCompared_b36 at hf
  refine lv_iload_n (pc := 36) hx hb dX5_isCompared_36 rfl (lv_at hl 1 rfl) ?_
  refine lv_if_lt (pc := 37) (tgt := 63) hx hb dX5_isCompared_37 (by decide) (fun c1 => ?_) (fun c1 => ?_)
  · replace hf := if_t hf c1
    refine lv_iconst (pc := 63) (v := (ii 0)) hx hb dX5_isCompared_63 (by decide) ?_
    cases hf
    exact x_zret (pc := 64) X V hr (by decide) dX5_isCompared_64
  · replace hf := if_f hf c1
    refine lv_aload_n (pc := 40) hx hb dX5_isCompared_40 rfl (lv_at hl 0 rfl) ?_
    replace hf := tg_s hf; obtain ⟨ht2, hf⟩ := hf
    replace hf := bs hf; obtain ⟨a3, ha3, hf⟩ := hf
    refine x_get (pc := 41) X V okX5 ht2 27 (by decide) q1548 (v := va_rf (R x0 27)) rfl dX5_isCompared_41 ?_
    refine x_topr ha3 ?_
    refine lv_iload_n (pc := 44) hx hb dX5_isCompared_44 rfl (lv_at hl 1 rfl) ?_
    replace hf := rA_s hf; obtain ⟨j4, hjj4, htj4, hij4, hf⟩ := hf
    refine x_iald (pc := 45) X V htj4 hij4 hjj4 dX5_isCompared_45 ?_
    refine lv_i2l (pc := 46) hx hb dX5_isCompared_46 rfl ?_
    refine lv_ldc2 (pc := 47) (v := (jj 25)) hx hb X.1.2.2.2.1 (X.1.2.2.2.2 _ q1948) dX5_isCompared_47 ?_
    refine lv_ldc2 (pc := 50) (v := (jj 27)) hx hb X.1.2.2.2.1 (X.1.2.2.2.2 _ q1949) dX5_isCompared_50 ?_
    replace hf := bs hf; obtain ⟨r5, hk_6, hf⟩ := hf
    refine x_callS0 (pc := 53) (As := [.long (((I a3 j4)).toInt64), .long (jj 25), .long (jj 27)]) (rest := []) X V (mX5_in l D dA s0 hk_6) q1713 q1714 q129 q1715 hsX5_in ⟨Nat.le_of_ble_eq_true rfl, Nat.le_of_ble_eq_true rfl⟩ rfl hl.1 rfl (Nat.le_of_ble_eq_true rfl) dX5_isCompared_53 ⟨Nat.zero_le _, Nat.zero_le _⟩ (fun H locs V => W.eq (g2 := F0 m 56 ls [.int r5]) rfl ?_)
    refine lv_if_eq (pc := 56) (tgt := 63) hx hb dX5_isCompared_56 (by decide) (fun c7 => ?_) (fun c7 => ?_)
    · replace hf := if_t hf c7
      refine lv_iconst (pc := 63) (v := (ii 0)) hx hb dX5_isCompared_63 (by decide) ?_
      cases hf
      exact x_zret (pc := 64) X V hr (by decide) dX5_isCompared_64
    · replace hf := if_f hf c7
      refine lv_iconst (pc := 59) (v := (ii 1)) hx hb dX5_isCompared_59 (by decide) ?_
      refine lv_goto (pc := 60) (tgt := 64) hx hb dX5_isCompared_60 (by decide) ?_
      cases hf
      exact x_zret (pc := 64) X V hr (by decide) dX5_isCompared_64
set_option maxHeartbeats 400000 in
set_option maxRecDepth 100000 in
theorem wX5_isCompared_b7 {nf : Nat} {p : Program} {l : Launch} {e : Env} {s : State} {m : MethodId} {args : Array Value} {below : List Frame} {meth : Method} {c : Code} {D : va_G} {dA : Nat → ClassId} {s0 : Nat} {T : xT} {N : xT} {Z : Nat} {I : xI} {L : xL} {R : xR}  {ro : Int32} (X : Cx D dA s0 p m c cX5_isCompared 2 s args RX5 meth) (hr : meth.sig.returnType = (some .boolean))   (k : Nat) : ∀ {x0 : Nat} {x1 : Int32} {H : Heap} {locs : List Loc} {ls : Array Slot} , fX5_isCompared_b7 nf T N I R k x0 x1 = some ro → Iv D dA s0 s T N Z I L R H locs → lv_has ls 2 [(0, .ref x0), (1, .int x1)] → W p l e { frames := 1, cells := 0, slots := 0, locals := 25 } s m args below meth c H locs 0 0 (MQ below (xQ D dA s0 (some (.int ro)) T N Z I L R) args s 0 0 (fun q => s0 ≤ q)) (F0 m 7 ls []) := by
  have hx := X.1.1
  have hb := X.1.2.1
  induction k with
  | zero =>
    intro x0 x1 H locs ls hf V hl
    exact absurd (show none = some _ from hf) (fun q => nomatch q)
  | succ k ih =>
    intro x0 x1 H locs ls hf V hl
    rw [fX5_isCompared_b7] at hf
    refine lv_iload_n (pc := 7) hx hb dX5_isCompared_7 rfl (lv_at hl 1 rfl) ?_
    refine lv_if_lt (pc := 8) (tgt := 36) hx hb dX5_isCompared_8 (by decide) (fun c1 => ?_) (fun c1 => ?_)
    · replace hf := if_t hf c1
      exact wX5_isCompared_b36 X hr hf V (lv_sub hl [0, 1] rfl)
    · replace hf := if_f hf c1
      refine lv_aload_n (pc := 11) hx hb dX5_isCompared_11 rfl (lv_at hl 0 rfl) ?_
      replace hf := tg_s hf; obtain ⟨ht2, hf⟩ := hf
      replace hf := bs hf; obtain ⟨a3, ha3, hf⟩ := hf
      refine x_get (pc := 12) X V okX5 ht2 27 (by decide) q1548 (v := va_rf (R x0 27)) rfl dX5_isCompared_12 ?_
      refine x_topr ha3 ?_
      refine lv_iload_n (pc := 15) hx hb dX5_isCompared_15 rfl (lv_at hl 1 rfl) ?_
      replace hf := rA_s hf; obtain ⟨j4, hjj4, htj4, hij4, hf⟩ := hf
      refine x_iald (pc := 16) X V htj4 hij4 hjj4 dX5_isCompared_16 ?_
      refine lv_i2l (pc := 17) hx hb dX5_isCompared_17 rfl ?_
      refine lv_ldc2 (pc := 18) (v := (jj 20)) hx hb X.1.2.2.2.1 (X.1.2.2.2.2 _ q1946) dX5_isCompared_18 ?_
      refine lv_ldc2 (pc := 21) (v := (jj 24)) hx hb X.1.2.2.2.1 (X.1.2.2.2.2 _ q1947) dX5_isCompared_21 ?_
      replace hf := bs hf; obtain ⟨r5, hk_6, hf⟩ := hf
      refine x_callS0 (pc := 24) (As := [.long (((I a3 j4)).toInt64), .long (jj 20), .long (jj 24)]) (rest := []) X V (mX5_in l D dA s0 hk_6) q1713 q1714 q129 q1715 hsX5_in ⟨Nat.le_of_ble_eq_true rfl, Nat.le_of_ble_eq_true rfl⟩ rfl hl.1 rfl (Nat.le_of_ble_eq_true rfl) dX5_isCompared_24 ⟨Nat.zero_le _, Nat.zero_le _⟩ (fun H locs V => W.eq (g2 := F0 m 27 ls [.int r5]) rfl ?_)
      refine lv_if_eq (pc := 27) (tgt := 36) hx hb dX5_isCompared_27 (by decide) (fun c7 => ?_) (fun c7 => ?_)
      · replace hf := if_t hf c7
        exact wX5_isCompared_b36 X hr hf V (lv_sub hl [0, 1] rfl)
      · replace hf := if_f hf c7
        replace hf := nm_s hf; obtain ⟨u8, hu8, hf⟩ := hf
        refine lv_iinc (pc := 30) (v := u8) (lv' := [(1, .int u8), (0, .ref x0)]) hx hb dX5_isCompared_30 hl (k := 1) rfl (by rw [hu8]; rfl) (by decide) rfl (fun ls hl => ?_)
        refine lv_goto (pc := 33) (tgt := 7) hx hb dX5_isCompared_33 (by decide) ?_
        exact ih hf V (lv_sub hl [1, 0] rfl)
set_option maxHeartbeats 400000 in
set_option maxRecDepth 100000 in
theorem wX5_isCompared_e {nf : Nat} {p : Program} {l : Launch} {e : Env} {s : State} {m : MethodId} {args : Array Value} {below : List Frame} {meth : Method} {c : Code} {D : va_G} {dA : Nat → ClassId} {s0 : Nat} {T : xT} {N : xT} {Z : Nat} {I : xI} {L : xL} {R : xR} {H : Heap} {locs : List Loc} {ls : Array Slot} {x0 : Nat} {ro : Int32} (X : Cx D dA s0 p m c cX5_isCompared 2 s args RX5 meth) (hr : meth.sig.returnType = (some .boolean)) (hf : fX5_isCompared nf T N I R x0 = some ro) (V : Iv D dA s0 s T N Z I L R H locs) (hl : lv_has ls 2 [(0, .ref x0)]) : W p l e { frames := 1, cells := 0, slots := 0, locals := 25 } s m args below meth c H locs 0 0 (MQ below (xQ D dA s0 (some (.int ro)) T N Z I L R) args s 0 0 (fun q => s0 ≤ q)) (F0 m 0 ls []) := by
  have hx := X.1.1
  have hb := X.1.2.1
  unfold fX5_isCompared at hf
  refine lv_aload_n (pc := 0) hx hb dX5_isCompared_0 rfl (lv_at hl 0 rfl) ?_
  replace hf := tg_s hf; obtain ⟨ht1, hf⟩ := hf
  refine x_get (pc := 1) X V okX5 ht1 29 (by decide) q1550 (v := .int (I x0 29)) rfl dX5_isCompared_1 ?_
  refine lv_iconst (pc := 4) (v := (ii 1)) hx hb dX5_isCompared_4 (by decide) ?_
  refine lv_isub (pc := 5) hx hb dX5_isCompared_5 ?_
  replace hf := nm_s hf; obtain ⟨u2, hu2, hf⟩ := hf
  refine x_topi hu2 ?_
  refine lv_istore_n (pc := 6) (lv' := [(1, .int u2), (0, .ref x0)]) hx hb dX5_isCompared_6 rfl hl (by decide) rfl (fun ls hl => ?_)
  exact wX5_isCompared_b7 X hr nf hf V (lv_sub hl [1, 0] rfl)
theorem mX5_isCompared {nf : Nat} (l : Launch) (D : va_G) (dA : Nat → ClassId) (s0 : Nat) {T : xT} {N : xT} {Z : Nat} {I : xI} {L : xL} {R : xR} {x0 : Nat} {ro : Int32} (hf : fX5_isCompared nf T N I R x0 = some ro) : XMet l D dA s0 yX5_isCompared (ws_ yX5_isCompared cX5_isCompared 2 ((some .boolean))) (1) (25) [.ref x0] T N Z I L R (some (.int ro)) T N Z I L R 0 0 :=
  x_start (own := RX5) rfl (by decide) (Nat.le_of_ble_eq_true rfl) (lv := [(0, .ref x0)]) rfl (fun p e s m below meth c ls X hr hini V hl => wX5_isCompared_e X hr hf V hl)
set_option maxHeartbeats 400000 in
set_option maxRecDepth 100000 in
theorem wX5_behindSum_b224 {nf : Nat} {p : Program} {l : Launch} {e : Env} {s : State} {m : MethodId} {args : Array Value} {below : List Frame} {meth : Method} {c : Code} {D : va_G} {dA : Nat → ClassId} {s0 : Nat} {T : xT} {N : xT} {Z : Nat} {I : xI} {L : xL} {R : xR} {H : Heap} {locs : List Loc} {ls : Array Slot}  {x0 : Nat} {x2 : Int32} {z0 : Nat} {z1 : Int32} {ro : Int32} {Io : xI} {Lo : xL} (X : Cx D dA s0 p m c cX5_behindSum 4 s args RX5 meth) (hr : meth.sig.returnType = (some .int))   (hf : fX5_behindSum_b224 nf T N I L R x0 x2 z0 z1 = some (ro, Io, Lo)) (V : Iv D dA s0 s T N Z I L R H locs) (hl : lv_has ls 4 [(0, .ref x0), (2, .int x2)]) : W p l e { frames := 3, cells := 0, slots := 0, locals := 61 } s m args below meth c H locs 0 0 (MQ below (xQ D dA s0 (some (.int ro)) T N Z Io Lo R) args s 0 0 (fun q => s0 ≤ q)) (F0 m 224 ls [.int z1, .ref z0]) := by
  have hx := X.1.1
  have hb := X.1.2.1
  unfold fX5_behindSum_b224 at hf
  replace hf := tg_s hf; obtain ⟨ht4, hf⟩ := hf
  replace hf := b2s hf; obtain ⟨I1, L2, hk_3, hf⟩ := hf
  refine x_callV0 (pc := 224) (As := [.int z1]) (rest := []) X V (mX5_must l D dA s0 hk_3) okX5 ht4 q1876 q1878 qs68 q129 q1879 ⟨rfl, hsX5_must⟩ ⟨Nat.le_of_ble_eq_true rfl, Nat.le_of_ble_eq_true rfl⟩ rfl hl.1 rfl (Nat.le_of_ble_eq_true rfl) dX5_behindSum_224 ⟨Nat.zero_le _, Nat.zero_le _⟩ (fun H locs V => W.eq (g2 := F0 m 227 ls []) rfl ?_)
  refine lv_aload_n (pc := 227) hx hb dX5_behindSum_227 rfl (lv_at hl 0 rfl) ?_
  replace hf := tg_s hf; obtain ⟨ht5, hf⟩ := hf
  refine x_get (pc := 228) X V okX5 ht5 19 (by decide) q1540 (v := .int (I1 x0 19)) rfl dX5_behindSum_228 ?_
  refine lv_if_ne (pc := 231) (tgt := 245) hx hb dX5_behindSum_231 (by decide) (fun c6 => ?_) (fun c6 => ?_)
  · replace hf := if_f hf c6
    refine lv_iconst (pc := 245) (v := (ii 1)) hx hb dX5_behindSum_245 (by decide) ?_
    cases hf
    exact x_iret (pc := 246) X V hr dX5_behindSum_246
  · replace hf := if_t hf c6
    refine lv_aload_n (pc := 234) hx hb dX5_behindSum_234 rfl (lv_at hl 0 rfl) ?_
    refine lv_iconst (pc := 235) (v := (ii 5)) hx hb dX5_behindSum_235 (by decide) ?_
    replace hf := bs hf; obtain ⟨I7, hk_8, hf⟩ := hf
    refine x_callV0 (pc := 236) (As := [.int (ii 5)]) (rest := []) X V (mX5_settle l D dA s0 hk_8) okX5 ht5 q1934 q1936 qs81 q129 q1937 ⟨rfl, hsX5_settle⟩ ⟨Nat.le_of_ble_eq_true rfl, Nat.le_of_ble_eq_true rfl⟩ rfl hl.1 rfl (Nat.le_of_ble_eq_true rfl) dX5_behindSum_236 ⟨Nat.zero_le _, Nat.zero_le _⟩ (fun H locs V => W.eq (g2 := F0 m 239 ls []) rfl ?_)
    refine lv_aload_n (pc := 239) hx hb dX5_behindSum_239 rfl (lv_at hl 0 rfl) ?_
    refine lv_iload_n (pc := 240) hx hb dX5_behindSum_240 rfl (lv_at hl 1 rfl) ?_
    refine lv_iconst (pc := 241) (v := (ii 0)) hx hb dX5_behindSum_241 (by decide) ?_
    replace hf := bs hf; obtain ⟨I9, hk_10, hf⟩ := hf
    refine x_callV0 (pc := 242) (As := [.int x2, .int (ii 0)]) (rest := []) X V (mX5_push l D dA s0 hk_10) okX5 ht5 q1889 q1891 qs71 q129 q1892 ⟨rfl, hsX5_push⟩ ⟨Nat.le_of_ble_eq_true rfl, Nat.le_of_ble_eq_true rfl⟩ rfl hl.1 rfl (Nat.le_of_ble_eq_true rfl) dX5_behindSum_242 ⟨Nat.zero_le _, Nat.zero_le _⟩ (fun H locs V => W.eq (g2 := F0 m 245 ls []) rfl ?_)
    refine lv_iconst (pc := 245) (v := (ii 1)) hx hb dX5_behindSum_245 (by decide) ?_
    cases hf
    exact x_iret (pc := 246) X V hr dX5_behindSum_246
set_option maxHeartbeats 400000 in
set_option maxRecDepth 100000 in
theorem wX5_behindSum_b202 {nf : Nat} {p : Program} {l : Launch} {e : Env} {s : State} {m : MethodId} {args : Array Value} {below : List Frame} {meth : Method} {c : Code} {D : va_G} {dA : Nat → ClassId} {s0 : Nat} {T : xT} {N : xT} {Z : Nat} {I : xI} {L : xL} {R : xR} {H : Heap} {locs : List Loc} {ls : Array Slot}  {x0 : Nat} {z0 : Int32} {ro : Int32} {Io : xI} {Lo : xL} (X : Cx D dA s0 p m c cX5_behindSum 4 s args RX5 meth) (hr : meth.sig.returnType = (some .int))   (hf : fX5_behindSum_b202 nf T N I L R x0 z0 = some (ro, Io, Lo)) (V : Iv D dA s0 s T N Z I L R H locs) (hl : lv_has ls 4 [(0, .ref x0)]) : W p l e { frames := 3, cells := 0, slots := 0, locals := 61 } s m args below meth c H locs 0 0 (MQ below (xQ D dA s0 (some (.int ro)) T N Z Io Lo R) args s 0 0 (fun q => s0 ≤ q)) (F0 m 202 ls [.int z0]) := by
  have hx := X.1.1
  have hb := X.1.2.1
  unfold fX5_behindSum_b202 at hf
  refine lv_istore_n (pc := 202) (lv' := [(2, .int z0), (0, .ref x0)]) hx hb dX5_behindSum_202 rfl hl (by decide) rfl (fun ls hl => ?_)
  refine lv_aload_n (pc := 203) hx hb dX5_behindSum_203 rfl (lv_at hl 1 rfl) ?_
  refine lv_iload_n (pc := 204) hx hb dX5_behindSum_204 rfl (lv_at hl 0 rfl) ?_
  refine lv_bipush (pc := 205) (v := (ii 27)) hx hb dX5_behindSum_205 (by decide) ?_
  refine lv_icmp_ne (pc := 207) (tgt := 219) hx hb dX5_behindSum_207 (by decide) (fun c1 => ?_) (fun c1 => ?_)
  · replace hf := if_f hf c1
    refine lv_iconst (pc := 219) (v := (ii 1)) hx hb dX5_behindSum_219 (by decide) ?_
    refine lv_goto (pc := 220) (tgt := 224) hx hb dX5_behindSum_220 (by decide) ?_
    exact wX5_behindSum_b224 X hr hf V (lv_sub hl [1, 0] rfl)
  · replace hf := if_t hf c1
    refine lv_aload_n (pc := 210) hx hb dX5_behindSum_210 rfl (lv_at hl 1 rfl) ?_
    refine lv_bipush (pc := 211) (v := (ii 61)) hx hb dX5_behindSum_211 (by decide) ?_
    replace hf := tg_s hf; obtain ⟨ht4, hf⟩ := hf
    replace hf := bs hf; obtain ⟨r2, hk_3, hf⟩ := hf
    refine x_callV0 (pc := 213) (As := [.int (ii 61)]) (rest := [.ref x0]) X V (mX5_isSign l D dA s0 hk_3) okX5 ht4 q1893 q1895 qs72 q129 q1896 ⟨rfl, hsX5_isSign⟩ ⟨Nat.le_of_ble_eq_true rfl, Nat.le_of_ble_eq_true rfl⟩ rfl hl.1 rfl (Nat.le_of_ble_eq_true rfl) dX5_behindSum_213 ⟨Nat.zero_le _, Nat.zero_le _⟩ (fun H locs V => W.eq (g2 := F0 m 216 ls [.int r2, .ref x0]) rfl ?_)
    refine lv_if_eq (pc := 216) (tgt := 223) hx hb dX5_behindSum_216 (by decide) (fun c5 => ?_) (fun c5 => ?_)
    · replace hf := if_t hf c5
      refine lv_iconst (pc := 223) (v := (ii 0)) hx hb dX5_behindSum_223 (by decide) ?_
      exact wX5_behindSum_b224 X hr hf V (lv_sub hl [1, 0] rfl)
    · replace hf := if_f hf c5
      refine lv_iconst (pc := 219) (v := (ii 1)) hx hb dX5_behindSum_219 (by decide) ?_
      refine lv_goto (pc := 220) (tgt := 224) hx hb dX5_behindSum_220 (by decide) ?_
      exact wX5_behindSum_b224 X hr hf V (lv_sub hl [1, 0] rfl)
set_option maxHeartbeats 400000 in
set_option maxRecDepth 100000 in
theorem wX5_behindSum_b163 {nf : Nat} {p : Program} {l : Launch} {e : Env} {s : State} {m : MethodId} {args : Array Value} {below : List Frame} {meth : Method} {c : Code} {D : va_G} {dA : Nat → ClassId} {s0 : Nat} {T : xT} {N : xT} {Z : Nat} {I : xI} {L : xL} {R : xR} {H : Heap} {locs : List Loc} {ls : Array Slot}  {x0 : Nat} {ro : Int32} {Io : xI} {Lo : xL} (X : Cx D dA s0 p m c cX5_behindSum 4 s args RX5 meth) (hr : meth.sig.returnType = (some .int))   (hf : fX5_behindSum_b163 nf T N I L R x0 = some (ro, Io, Lo)) (V : Iv D dA s0 s T N Z I L R H locs) (hl : lv_has ls 4 [(0, .ref x0)]) : W p l e { frames := 3, cells := 0, slots := 0, locals := 61 } s m args below meth c H locs 0 0 (MQ below (xQ D dA s0 (some (.int ro)) T N Z Io Lo R) args s 0 0 (fun q => s0 ≤ q)) (F0 m 163 ls []) := by
  have hx := X.1.1
  have hb := X.1.2.1
  unfold fX5_behindSum_b163 at hf
  refine lv_aload_n (pc := 163) hx hb dX5_behindSum_163 rfl (lv_at hl 0 rfl) ?_
  replace hf := tg_s hf; obtain ⟨ht3, hf⟩ := hf
  replace hf := bs hf; obtain ⟨r1, hk_2, hf⟩ := hf
  refine x_callV0 (pc := 164) (As := []) (rest := []) X V (mX5_isCompared l D dA s0 hk_2) okX5 ht3 q1942 q1944 qs83 q129 q1945 ⟨rfl, hsX5_isCompared⟩ ⟨Nat.le_of_ble_eq_true rfl, Nat.le_of_ble_eq_true rfl⟩ rfl hl.1 rfl (Nat.le_of_ble_eq_true rfl) dX5_behindSum_164 ⟨Nat.zero_le _, Nat.zero_le _⟩ (fun H locs V => W.eq (g2 := F0 m 167 ls [.int r1]) rfl ?_)
  refine lv_if_eq (pc := 167) (tgt := 172) hx hb dX5_behindSum_167 (by decide) (fun c4 => ?_) (fun c4 => ?_)
  · replace hf := if_t hf c4
    refine lv_aload_n (pc := 172) hx hb dX5_behindSum_172 rfl (lv_at hl 0 rfl) ?_
    refine lv_bipush (pc := 173) (v := (ii 60)) hx hb dX5_behindSum_173 (by decide) ?_
    replace hf := bs hf; obtain ⟨r5, hk_6, hf⟩ := hf
    refine x_callV0 (pc := 175) (As := [.int (ii 60)]) (rest := []) X V (mX5_isSign l D dA s0 hk_6) okX5 ht3 q1893 q1895 qs72 q129 q1896 ⟨rfl, hsX5_isSign⟩ ⟨Nat.le_of_ble_eq_true rfl, Nat.le_of_ble_eq_true rfl⟩ rfl hl.1 rfl (Nat.le_of_ble_eq_true rfl) dX5_behindSum_175 ⟨Nat.zero_le _, Nat.zero_le _⟩ (fun H locs V => W.eq (g2 := F0 m 178 ls [.int r5]) rfl ?_)
    refine lv_if_eq (pc := 178) (tgt := 186) hx hb dX5_behindSum_178 (by decide) (fun c7 => ?_) (fun c7 => ?_)
    · replace hf := if_t hf c7
      refine lv_aload_n (pc := 186) hx hb dX5_behindSum_186 rfl (lv_at hl 0 rfl) ?_
      refine lv_bipush (pc := 187) (v := (ii 62)) hx hb dX5_behindSum_187 (by decide) ?_
      replace hf := bs hf; obtain ⟨r8, hk_9, hf⟩ := hf
      refine x_callV0 (pc := 189) (As := [.int (ii 62)]) (rest := []) X V (mX5_isSign l D dA s0 hk_9) okX5 ht3 q1893 q1895 qs72 q129 q1896 ⟨rfl, hsX5_isSign⟩ ⟨Nat.le_of_ble_eq_true rfl, Nat.le_of_ble_eq_true rfl⟩ rfl hl.1 rfl (Nat.le_of_ble_eq_true rfl) dX5_behindSum_189 ⟨Nat.zero_le _, Nat.zero_le _⟩ (fun H locs V => W.eq (g2 := F0 m 192 ls [.int r8]) rfl ?_)
      refine lv_if_eq (pc := 192) (tgt := 200) hx hb dX5_behindSum_192 (by decide) (fun c10 => ?_) (fun c10 => ?_)
      · replace hf := if_t hf c10
        refine lv_bipush (pc := 200) (v := (ii 27)) hx hb dX5_behindSum_200 (by decide) ?_
        exact wX5_behindSum_b202 X hr hf V (lv_sub hl [0] rfl)
      · replace hf := if_f hf c10
        refine lv_bipush (pc := 195) (v := (ii 26)) hx hb dX5_behindSum_195 (by decide) ?_
        refine lv_goto (pc := 197) (tgt := 202) hx hb dX5_behindSum_197 (by decide) ?_
        exact wX5_behindSum_b202 X hr hf V (lv_sub hl [0] rfl)
    · replace hf := if_f hf c7
      refine lv_bipush (pc := 181) (v := (ii 25)) hx hb dX5_behindSum_181 (by decide) ?_
      refine lv_goto (pc := 183) (tgt := 202) hx hb dX5_behindSum_183 (by decide) ?_
      exact wX5_behindSum_b202 X hr hf V (lv_sub hl [0] rfl)
  · replace hf := if_f hf c4
    refine lv_iconst (pc := 170) (v := (ii 2)) hx hb dX5_behindSum_170 (by decide) ?_
    cases hf
    exact x_iret (pc := 171) X V hr dX5_behindSum_171
set_option maxHeartbeats 400000 in
set_option maxRecDepth 100000 in
theorem wX5_behindSum_b71 {nf : Nat} {p : Program} {l : Launch} {e : Env} {s : State} {m : MethodId} {args : Array Value} {below : List Frame} {meth : Method} {c : Code} {D : va_G} {dA : Nat → ClassId} {s0 : Nat} {T : xT} {N : xT} {Z : Nat} {I : xI} {L : xL} {R : xR} {H : Heap} {locs : List Loc} {ls : Array Slot}  {x0 : Nat} {x1 : Int32} {z0 : Int32} {ro : Int32} {Io : xI} {Lo : xL} (X : Cx D dA s0 p m c cX5_behindSum 4 s args RX5 meth) (hr : meth.sig.returnType = (some .int))   (hf : fX5_behindSum_b71 nf T N I L R x0 x1 z0 = some (ro, Io, Lo)) (V : Iv D dA s0 s T N Z I L R H locs) (hl : lv_has ls 4 [(0, .ref x0), (1, .int x1)]) : W p l e { frames := 3, cells := 0, slots := 0, locals := 61 } s m args below meth c H locs 0 0 (MQ below (xQ D dA s0 (some (.int ro)) T N Z Io Lo R) args s 0 0 (fun q => s0 ≤ q)) (F0 m 71 ls [.int z0]) := by
  have hx := X.1.1
  have hb := X.1.2.1
  unfold fX5_behindSum_b71 at hf
  refine lv_istore_n (pc := 71) (lv' := [(2, .int z0), (0, .ref x0), (1, .int x1)]) hx hb dX5_behindSum_71 rfl hl (by decide) rfl (fun ls hl => ?_)
  refine lv_iload_n (pc := 72) hx hb dX5_behindSum_72 rfl (lv_at hl 0 rfl) ?_
  refine lv_iconst (pc := 73) (v := (-1 : Int32)) hx hb dX5_behindSum_73 (by decide) ?_
  refine lv_icmp_eq (pc := 74) (tgt := 97) hx hb dX5_behindSum_74 (by decide) (fun c1 => ?_) (fun c1 => ?_)
  · replace hf := if_t hf c1
    refine lv_aload_n (pc := 97) hx hb dX5_behindSum_97 rfl (lv_at hl 1 rfl) ?_
    replace hf := tg_s hf; obtain ⟨ht4, hf⟩ := hf
    replace hf := bs hf; obtain ⟨r2, hk_3, hf⟩ := hf
    refine x_callV0 (pc := 98) (As := []) (rest := []) X V (mX5_inner l D dA s0 hk_3) okX5 ht4 q1938 q1940 qs82 q129 q1941 ⟨rfl, hsX5_inner⟩ ⟨Nat.le_of_ble_eq_true rfl, Nat.le_of_ble_eq_true rfl⟩ rfl hl.1 rfl (Nat.le_of_ble_eq_true rfl) dX5_behindSum_98 ⟨Nat.zero_le _, Nat.zero_le _⟩ (fun H locs V => W.eq (g2 := F0 m 101 ls [.int r2]) rfl ?_)
    refine lv_istore_n (pc := 101) (lv' := [(3, .int r2), (2, .int z0), (0, .ref x0), (1, .int x1)]) hx hb dX5_behindSum_101 rfl hl (by decide) rfl (fun ls hl => ?_)
    refine lv_iload_n (pc := 102) hx hb dX5_behindSum_102 rfl (lv_at hl 0 rfl) ?_
    refine lv_bipush (pc := 103) (v := (ii 32)) hx hb dX5_behindSum_103 (by decide) ?_
    refine lv_icmp_ne (pc := 105) (tgt := 152) hx hb dX5_behindSum_105 (by decide) (fun c5 => ?_) (fun c5 => ?_)
    · replace hf := if_f hf c5
      refine lv_iload_n (pc := 152) hx hb dX5_behindSum_152 rfl (lv_at hl 0 rfl) ?_
      refine lv_iconst (pc := 153) (v := (-1 : Int32)) hx hb dX5_behindSum_153 (by decide) ?_
      refine lv_icmp_ne (pc := 154) (tgt := 163) hx hb dX5_behindSum_154 (by decide) (fun c6 => ?_) (fun c6 => ?_)
      · replace hf := if_f hf c6
        exact wX5_behindSum_b163 X hr hf V (lv_sub hl [2] rfl)
      · replace hf := if_t hf c6
        refine lv_iload_n (pc := 157) hx hb dX5_behindSum_157 rfl (lv_at hl 3 rfl) ?_
        refine lv_if_ne (pc := 158) (tgt := 163) hx hb dX5_behindSum_158 (by decide) (fun c7 => ?_) (fun c7 => ?_)
        · replace hf := if_f hf c7
          exact wX5_behindSum_b163 X hr hf V (lv_sub hl [2] rfl)
        · replace hf := if_t hf c7
          refine lv_iconst (pc := 161) (v := (ii 4)) hx hb dX5_behindSum_161 (by decide) ?_
          cases hf
          exact x_iret (pc := 162) X V hr dX5_behindSum_162
    · replace hf := if_t hf c5
      refine lv_aload_n (pc := 108) hx hb dX5_behindSum_108 rfl (lv_at hl 2 rfl) ?_
      refine lv_aload_n (pc := 109) hx hb dX5_behindSum_109 rfl (lv_at hl 2 rfl) ?_
      refine lv_bipush (pc := 110) (v := (ii 93)) hx hb dX5_behindSum_110 (by decide) ?_
      replace hf := bs hf; obtain ⟨r8, hk_9, hf⟩ := hf
      refine x_callV0 (pc := 112) (As := [.int (ii 93)]) (rest := [.ref x0]) X V (mX5_isSign l D dA s0 hk_9) okX5 ht4 q1893 q1895 qs72 q129 q1896 ⟨rfl, hsX5_isSign⟩ ⟨Nat.le_of_ble_eq_true rfl, Nat.le_of_ble_eq_true rfl⟩ rfl hl.1 rfl (Nat.le_of_ble_eq_true rfl) dX5_behindSum_112 ⟨Nat.zero_le _, Nat.zero_le _⟩ (fun H locs V => W.eq (g2 := F0 m 115 ls [.int r8, .ref x0]) rfl ?_)
      replace hf := b2s hf; obtain ⟨I10, L11, hk_12, hf⟩ := hf
      refine x_callV0 (pc := 115) (As := [.int r8]) (rest := []) X V (mX5_must l D dA s0 hk_12) okX5 ht4 q1876 q1878 qs68 q129 q1879 ⟨rfl, hsX5_must⟩ ⟨Nat.le_of_ble_eq_true rfl, Nat.le_of_ble_eq_true rfl⟩ rfl hl.1 rfl (Nat.le_of_ble_eq_true rfl) dX5_behindSum_115 ⟨Nat.zero_le _, Nat.zero_le _⟩ (fun H locs V => W.eq (g2 := F0 m 118 ls []) rfl ?_)
      refine lv_aload_n (pc := 118) hx hb dX5_behindSum_118 rfl (lv_at hl 2 rfl) ?_
      refine x_get (pc := 119) X V okX5 ht4 19 (by decide) q1540 (v := .int (I10 x0 19)) rfl dX5_behindSum_119 ?_
      refine lv_if_ne (pc := 122) (tgt := 150) hx hb dX5_behindSum_122 (by decide) (fun c13 => ?_) (fun c13 => ?_)
      · replace hf := if_f hf c13
        refine lv_iconst (pc := 150) (v := (ii 3)) hx hb dX5_behindSum_150 (by decide) ?_
        cases hf
        exact x_iret (pc := 151) X V hr dX5_behindSum_151
      · replace hf := if_t hf c13
        refine lv_aload_n (pc := 125) hx hb dX5_behindSum_125 rfl (lv_at hl 2 rfl) ?_
        refine lv_iconst (pc := 126) (v := (ii 5)) hx hb dX5_behindSum_126 (by decide) ?_
        replace hf := bs hf; obtain ⟨I14, hk_15, hf⟩ := hf
        refine x_callV0 (pc := 127) (As := [.int (ii 5)]) (rest := []) X V (mX5_settle l D dA s0 hk_15) okX5 ht4 q1934 q1936 qs81 q129 q1937 ⟨rfl, hsX5_settle⟩ ⟨Nat.le_of_ble_eq_true rfl, Nat.le_of_ble_eq_true rfl⟩ rfl hl.1 rfl (Nat.le_of_ble_eq_true rfl) dX5_behindSum_127 ⟨Nat.zero_le _, Nat.zero_le _⟩ (fun H locs V => W.eq (g2 := F0 m 130 ls []) rfl ?_)
        refine lv_aload_n (pc := 130) hx hb dX5_behindSum_130 rfl (lv_at hl 2 rfl) ?_
        refine lv_dup (pc := 131) hx hb dX5_behindSum_131 rfl ?_
        refine x_get (pc := 132) X V okX5 ht4 29 (by decide) q1550 (v := .int (I14 x0 29)) rfl dX5_behindSum_132 ?_
        refine lv_iconst (pc := 135) (v := (ii 1)) hx hb dX5_behindSum_135 (by decide) ?_
        refine lv_isub (pc := 136) hx hb dX5_behindSum_136 ?_
        replace hf := nm_s hf; obtain ⟨I16, hI16, hf⟩ := hf
        refine x_puti (pc := 137) X V okX5 (by decide) ht4 29 (by decide) q1550 (Or.inl rfl) hI16 (fun _ _ _ => rfl) rfl rfl dX5_behindSum_137 (fun H locs V => ?_)
        refine lv_aload_n (pc := 140) hx hb dX5_behindSum_140 rfl (lv_at hl 2 rfl) ?_
        refine lv_dup (pc := 141) hx hb dX5_behindSum_141 rfl ?_
        refine x_get (pc := 142) X V okX5 ht4 30 (by decide) q1551 (v := .int (I16 x0 30)) rfl dX5_behindSum_142 ?_
        refine lv_iconst (pc := 145) (v := (ii 1)) hx hb dX5_behindSum_145 (by decide) ?_
        refine lv_isub (pc := 146) hx hb dX5_behindSum_146 ?_
        replace hf := nm_s hf; obtain ⟨I17, hI17, hf⟩ := hf
        refine x_puti (pc := 147) X V okX5 (by decide) ht4 30 (by decide) q1551 (Or.inl rfl) hI17 (fun _ _ _ => rfl) rfl rfl dX5_behindSum_147 (fun H locs V => ?_)
        refine lv_iconst (pc := 150) (v := (ii 3)) hx hb dX5_behindSum_150 (by decide) ?_
        cases hf
        exact x_iret (pc := 151) X V hr dX5_behindSum_151
  · replace hf := if_f hf c1
    refine lv_aload_n (pc := 77) hx hb dX5_behindSum_77 rfl (lv_at hl 1 rfl) ?_
    refine lv_iload_n (pc := 78) hx hb dX5_behindSum_78 rfl (lv_at hl 0 rfl) ?_
    replace hf := bs hf; obtain ⟨r18, hk_19, hf⟩ := hf
    refine x_callS0 (pc := 79) (As := [.int z0]) (rest := [.ref x0]) X V (mX5_binds l D dA s0 hk_19) q1931 q1932 q129 q1933 hsX5_binds ⟨Nat.le_of_ble_eq_true rfl, Nat.le_of_ble_eq_true rfl⟩ rfl hl.1 rfl (Nat.le_of_ble_eq_true rfl) dX5_behindSum_79 ⟨Nat.zero_le _, Nat.zero_le _⟩ (fun H locs V => W.eq (g2 := F0 m 82 ls [.int r18, .ref x0]) rfl ?_)
    replace hf := tg_s hf; obtain ⟨ht22, hf⟩ := hf
    replace hf := bs hf; obtain ⟨I20, hk_21, hf⟩ := hf
    refine x_callV0 (pc := 82) (As := [.int r18]) (rest := []) X V (mX5_settle l D dA s0 hk_21) okX5 ht22 q1934 q1936 qs81 q129 q1937 ⟨rfl, hsX5_settle⟩ ⟨Nat.le_of_ble_eq_true rfl, Nat.le_of_ble_eq_true rfl⟩ rfl hl.1 rfl (Nat.le_of_ble_eq_true rfl) dX5_behindSum_82 ⟨Nat.zero_le _, Nat.zero_le _⟩ (fun H locs V => W.eq (g2 := F0 m 85 ls []) rfl ?_)
    refine lv_aload_n (pc := 85) hx hb dX5_behindSum_85 rfl (lv_at hl 1 rfl) ?_
    refine lv_iload_n (pc := 86) hx hb dX5_behindSum_86 rfl (lv_at hl 0 rfl) ?_
    refine lv_iconst (pc := 87) (v := (ii 0)) hx hb dX5_behindSum_87 (by decide) ?_
    replace hf := bs hf; obtain ⟨I23, hk_24, hf⟩ := hf
    refine x_callV0 (pc := 88) (As := [.int z0, .int (ii 0)]) (rest := []) X V (mX5_push l D dA s0 hk_24) okX5 ht22 q1889 q1891 qs71 q129 q1892 ⟨rfl, hsX5_push⟩ ⟨Nat.le_of_ble_eq_true rfl, Nat.le_of_ble_eq_true rfl⟩ rfl hl.1 rfl (Nat.le_of_ble_eq_true rfl) dX5_behindSum_88 ⟨Nat.zero_le _, Nat.zero_le _⟩ (fun H locs V => W.eq (g2 := F0 m 91 ls []) rfl ?_)
    refine lv_aload_n (pc := 91) hx hb dX5_behindSum_91 rfl (lv_at hl 1 rfl) ?_
    replace hf := b2s hf; obtain ⟨I25, L26, hk_27, hf⟩ := hf
    refine x_callV0 (pc := 92) (As := []) (rest := []) X V (mX5_next l D dA s0 hk_27) okX5 ht22 q1854 q1856 qs65 q129 q1857 ⟨rfl, hsX5_next⟩ ⟨Nat.le_of_ble_eq_true rfl, Nat.le_of_ble_eq_true rfl⟩ rfl hl.1 rfl (Nat.le_of_ble_eq_true rfl) dX5_behindSum_92 ⟨Nat.zero_le _, Nat.zero_le _⟩ (fun H locs V => W.eq (g2 := F0 m 95 ls []) rfl ?_)
    refine lv_iconst (pc := 95) (v := (ii 1)) hx hb dX5_behindSum_95 (by decide) ?_
    cases hf
    exact x_iret (pc := 96) X V hr dX5_behindSum_96
set_option maxHeartbeats 400000 in
set_option maxRecDepth 100000 in
theorem wX5_behindSum_e {nf : Nat} {p : Program} {l : Launch} {e : Env} {s : State} {m : MethodId} {args : Array Value} {below : List Frame} {meth : Method} {c : Code} {D : va_G} {dA : Nat → ClassId} {s0 : Nat} {T : xT} {N : xT} {Z : Nat} {I : xI} {L : xL} {R : xR} {H : Heap} {locs : List Loc} {ls : Array Slot} {x0 : Nat} {x1 : Int32} {ro : Int32} {Io : xI} {Lo : xL} (X : Cx D dA s0 p m c cX5_behindSum 4 s args RX5 meth) (hr : meth.sig.returnType = (some .int)) (hf : fX5_behindSum nf T N I L R x0 x1 = some (ro, Io, Lo)) (V : Iv D dA s0 s T N Z I L R H locs) (hl : lv_has ls 4 [(0, .ref x0), (1, .int x1)]) : W p l e { frames := 3, cells := 0, slots := 0, locals := 61 } s m args below meth c H locs 0 0 (MQ below (xQ D dA s0 (some (.int ro)) T N Z Io Lo R) args s 0 0 (fun q => s0 ≤ q)) (F0 m 0 ls []) := by
  have hx := X.1.1
  have hb := X.1.2.1
  unfold fX5_behindSum at hf
  refine lv_aload_n (pc := 0) hx hb dX5_behindSum_0 rfl (lv_at hl 0 rfl) ?_
  refine lv_bipush (pc := 1) (v := (ii 43)) hx hb dX5_behindSum_1 (by decide) ?_
  replace hf := tg_s hf; obtain ⟨ht3, hf⟩ := hf
  replace hf := bs hf; obtain ⟨r1, hk_2, hf⟩ := hf
  refine x_callV0 (pc := 3) (As := [.int (ii 43)]) (rest := []) X V (mX5_isSign l D dA s0 hk_2) okX5 ht3 q1893 q1895 qs72 q129 q1896 ⟨rfl, hsX5_isSign⟩ ⟨Nat.le_of_ble_eq_true rfl, Nat.le_of_ble_eq_true rfl⟩ rfl hl.1 rfl (Nat.le_of_ble_eq_true rfl) dX5_behindSum_3 ⟨Nat.zero_le _, Nat.zero_le _⟩ (fun H locs V => W.eq (g2 := F0 m 6 ls [.int r1]) rfl ?_)
  refine lv_if_eq (pc := 6) (tgt := 14) hx hb dX5_behindSum_6 (by decide) (fun c4 => ?_) (fun c4 => ?_)
  · replace hf := if_t hf c4
    refine lv_aload_n (pc := 14) hx hb dX5_behindSum_14 rfl (lv_at hl 0 rfl) ?_
    refine lv_bipush (pc := 15) (v := (ii 45)) hx hb dX5_behindSum_15 (by decide) ?_
    replace hf := bs hf; obtain ⟨r5, hk_6, hf⟩ := hf
    refine x_callV0 (pc := 17) (As := [.int (ii 45)]) (rest := []) X V (mX5_isSign l D dA s0 hk_6) okX5 ht3 q1893 q1895 qs72 q129 q1896 ⟨rfl, hsX5_isSign⟩ ⟨Nat.le_of_ble_eq_true rfl, Nat.le_of_ble_eq_true rfl⟩ rfl hl.1 rfl (Nat.le_of_ble_eq_true rfl) dX5_behindSum_17 ⟨Nat.zero_le _, Nat.zero_le _⟩ (fun H locs V => W.eq (g2 := F0 m 20 ls [.int r5]) rfl ?_)
    refine lv_if_eq (pc := 20) (tgt := 28) hx hb dX5_behindSum_20 (by decide) (fun c7 => ?_) (fun c7 => ?_)
    · replace hf := if_t hf c7
      refine lv_aload_n (pc := 28) hx hb dX5_behindSum_28 rfl (lv_at hl 0 rfl) ?_
      refine lv_bipush (pc := 29) (v := (ii 42)) hx hb dX5_behindSum_29 (by decide) ?_
      replace hf := bs hf; obtain ⟨r8, hk_9, hf⟩ := hf
      refine x_callV0 (pc := 31) (As := [.int (ii 42)]) (rest := []) X V (mX5_isSign l D dA s0 hk_9) okX5 ht3 q1893 q1895 qs72 q129 q1896 ⟨rfl, hsX5_isSign⟩ ⟨Nat.le_of_ble_eq_true rfl, Nat.le_of_ble_eq_true rfl⟩ rfl hl.1 rfl (Nat.le_of_ble_eq_true rfl) dX5_behindSum_31 ⟨Nat.zero_le _, Nat.zero_le _⟩ (fun H locs V => W.eq (g2 := F0 m 34 ls [.int r8]) rfl ?_)
      refine lv_if_eq (pc := 34) (tgt := 42) hx hb dX5_behindSum_34 (by decide) (fun c10 => ?_) (fun c10 => ?_)
      · replace hf := if_t hf c10
        refine lv_aload_n (pc := 42) hx hb dX5_behindSum_42 rfl (lv_at hl 0 rfl) ?_
        refine lv_bipush (pc := 43) (v := (ii 47)) hx hb dX5_behindSum_43 (by decide) ?_
        replace hf := bs hf; obtain ⟨r11, hk_12, hf⟩ := hf
        refine x_callV0 (pc := 45) (As := [.int (ii 47)]) (rest := []) X V (mX5_isSign l D dA s0 hk_12) okX5 ht3 q1893 q1895 qs72 q129 q1896 ⟨rfl, hsX5_isSign⟩ ⟨Nat.le_of_ble_eq_true rfl, Nat.le_of_ble_eq_true rfl⟩ rfl hl.1 rfl (Nat.le_of_ble_eq_true rfl) dX5_behindSum_45 ⟨Nat.zero_le _, Nat.zero_le _⟩ (fun H locs V => W.eq (g2 := F0 m 48 ls [.int r11]) rfl ?_)
        refine lv_if_eq (pc := 48) (tgt := 56) hx hb dX5_behindSum_48 (by decide) (fun c13 => ?_) (fun c13 => ?_)
        · replace hf := if_t hf c13
          refine lv_aload_n (pc := 56) hx hb dX5_behindSum_56 rfl (lv_at hl 0 rfl) ?_
          refine lv_bipush (pc := 57) (v := (ii 37)) hx hb dX5_behindSum_57 (by decide) ?_
          replace hf := bs hf; obtain ⟨r14, hk_15, hf⟩ := hf
          refine x_callV0 (pc := 59) (As := [.int (ii 37)]) (rest := []) X V (mX5_isSign l D dA s0 hk_15) okX5 ht3 q1893 q1895 qs72 q129 q1896 ⟨rfl, hsX5_isSign⟩ ⟨Nat.le_of_ble_eq_true rfl, Nat.le_of_ble_eq_true rfl⟩ rfl hl.1 rfl (Nat.le_of_ble_eq_true rfl) dX5_behindSum_59 ⟨Nat.zero_le _, Nat.zero_le _⟩ (fun H locs V => W.eq (g2 := F0 m 62 ls [.int r14]) rfl ?_)
          refine lv_if_eq (pc := 62) (tgt := 70) hx hb dX5_behindSum_62 (by decide) (fun c16 => ?_) (fun c16 => ?_)
          · replace hf := if_t hf c16
            refine lv_iconst (pc := 70) (v := (-1 : Int32)) hx hb dX5_behindSum_70 (by decide) ?_
            exact wX5_behindSum_b71 X hr hf V (lv_sub hl [0, 1] rfl)
          · replace hf := if_f hf c16
            refine lv_bipush (pc := 65) (v := (ii 24)) hx hb dX5_behindSum_65 (by decide) ?_
            refine lv_goto (pc := 67) (tgt := 71) hx hb dX5_behindSum_67 (by decide) ?_
            exact wX5_behindSum_b71 X hr hf V (lv_sub hl [0, 1] rfl)
        · replace hf := if_f hf c13
          refine lv_bipush (pc := 51) (v := (ii 23)) hx hb dX5_behindSum_51 (by decide) ?_
          refine lv_goto (pc := 53) (tgt := 71) hx hb dX5_behindSum_53 (by decide) ?_
          exact wX5_behindSum_b71 X hr hf V (lv_sub hl [0, 1] rfl)
      · replace hf := if_f hf c10
        refine lv_bipush (pc := 37) (v := (ii 22)) hx hb dX5_behindSum_37 (by decide) ?_
        refine lv_goto (pc := 39) (tgt := 71) hx hb dX5_behindSum_39 (by decide) ?_
        exact wX5_behindSum_b71 X hr hf V (lv_sub hl [0, 1] rfl)
    · replace hf := if_f hf c7
      refine lv_bipush (pc := 23) (v := (ii 21)) hx hb dX5_behindSum_23 (by decide) ?_
      refine lv_goto (pc := 25) (tgt := 71) hx hb dX5_behindSum_25 (by decide) ?_
      exact wX5_behindSum_b71 X hr hf V (lv_sub hl [0, 1] rfl)
  · replace hf := if_f hf c4
    refine lv_bipush (pc := 9) (v := (ii 20)) hx hb dX5_behindSum_9 (by decide) ?_
    refine lv_goto (pc := 11) (tgt := 71) hx hb dX5_behindSum_11 (by decide) ?_
    exact wX5_behindSum_b71 X hr hf V (lv_sub hl [0, 1] rfl)
theorem mX5_behindSum {nf : Nat} (l : Launch) (D : va_G) (dA : Nat → ClassId) (s0 : Nat) {T : xT} {N : xT} {Z : Nat} {I : xI} {L : xL} {R : xR} {x0 : Nat} {x1 : Int32} {ro : Int32} {Io : xI} {Lo : xL} (hf : fX5_behindSum nf T N I L R x0 x1 = some (ro, Io, Lo)) : XMet l D dA s0 yX5_behindSum (ws_ yX5_behindSum cX5_behindSum 4 ((some .int))) (3) (61) [.ref x0, .int x1] T N Z I L R (some (.int ro)) T N Z Io Lo R 0 0 :=
  x_start (own := RX5) rfl (by decide) (Nat.le_of_ble_eq_true rfl) (lv := [(0, .ref x0), (1, .int x1)]) rfl (fun p e s m below meth c ls X hr hini V hl => wX5_behindSum_e X hr hf V hl)
set_option maxHeartbeats 400000 in
set_option maxRecDepth 100000 in
theorem wX5_behindTest_b66 {nf : Nat} {p : Program} {l : Launch} {e : Env} {s : State} {m : MethodId} {args : Array Value} {below : List Frame} {meth : Method} {c : Code} {D : va_G} {dA : Nat → ClassId} {s0 : Nat} {T : xT} {N : xT} {Z : Nat} {I : xI} {L : xL} {R : xR} {H : Heap} {locs : List Loc} {ls : Array Slot}  {x0 : Nat} {z0 : Nat} {z1 : Int32} {ro : Int32} {Io : xI} {Lo : xL} (X : Cx D dA s0 p m c cX5_behindTest 2 s args RX5 meth) (hr : meth.sig.returnType = (some .int))   (hf : fX5_behindTest_b66 nf T N I L R x0 z0 z1 = some (ro, Io, Lo)) (V : Iv D dA s0 s T N Z I L R H locs) (hl : lv_has ls 2 [(0, .ref x0)]) : W p l e { frames := 3, cells := 0, slots := 0, locals := 61 } s m args below meth c H locs 0 0 (MQ below (xQ D dA s0 (some (.int ro)) T N Z Io Lo R) args s 0 0 (fun q => s0 ≤ q)) (F0 m 66 ls [.int z1, .ref z0]) := by
  have hx := X.1.1
  have hb := X.1.2.1
  unfold fX5_behindTest_b66 at hf
  refine lv_iconst (pc := 66) (v := (ii 0)) hx hb dX5_behindTest_66 (by decide) ?_
  replace hf := tg_s hf; obtain ⟨ht3, hf⟩ := hf
  replace hf := bs hf; obtain ⟨I1, hk_2, hf⟩ := hf
  refine x_callV0 (pc := 67) (As := [.int z1, .int (ii 0)]) (rest := []) X V (mX5_emit l D dA s0 hk_2) okX5 ht3 q1918 q1920 qs78 q129 q1921 ⟨rfl, hsX5_emit⟩ ⟨Nat.le_of_ble_eq_true rfl, Nat.le_of_ble_eq_true rfl⟩ rfl hl.1 rfl (Nat.le_of_ble_eq_true rfl) dX5_behindTest_67 ⟨Nat.zero_le _, Nat.zero_le _⟩ (fun H locs V => W.eq (g2 := F0 m 70 ls []) rfl ?_)
  refine lv_aload_n (pc := 70) hx hb dX5_behindTest_70 rfl (lv_at hl 0 rfl) ?_
  replace hf := tg_s hf; obtain ⟨ht7, hf⟩ := hf
  replace hf := b2s hf; obtain ⟨I4, L5, hk_6, hf⟩ := hf
  refine x_callV0 (pc := 71) (As := []) (rest := []) X V (mX5_next l D dA s0 hk_6) okX5 ht7 q1854 q1856 qs65 q129 q1857 ⟨rfl, hsX5_next⟩ ⟨Nat.le_of_ble_eq_true rfl, Nat.le_of_ble_eq_true rfl⟩ rfl hl.1 rfl (Nat.le_of_ble_eq_true rfl) dX5_behindTest_71 ⟨Nat.zero_le _, Nat.zero_le _⟩ (fun H locs V => W.eq (g2 := F0 m 74 ls []) rfl ?_)
  refine lv_iconst (pc := 74) (v := (ii 0)) hx hb dX5_behindTest_74 (by decide) ?_
  cases hf
  exact x_iret (pc := 75) X V hr dX5_behindTest_75
set_option maxHeartbeats 400000 in
set_option maxRecDepth 100000 in
theorem wX5_behindTest_b47 {nf : Nat} {p : Program} {l : Launch} {e : Env} {s : State} {m : MethodId} {args : Array Value} {below : List Frame} {meth : Method} {c : Code} {D : va_G} {dA : Nat → ClassId} {s0 : Nat} {T : xT} {N : xT} {Z : Nat} {I : xI} {L : xL} {R : xR} {H : Heap} {locs : List Loc} {ls : Array Slot}  {x0 : Nat} {x1 : Int32} {z0 : Nat} {z1 : Int32} {ro : Int32} {Io : xI} {Lo : xL} (X : Cx D dA s0 p m c cX5_behindTest 2 s args RX5 meth) (hr : meth.sig.returnType = (some .int))   (hf : fX5_behindTest_b47 nf T N I L R x0 x1 z0 z1 = some (ro, Io, Lo)) (V : Iv D dA s0 s T N Z I L R H locs) (hl : lv_has ls 2 [(0, .ref x0), (1, .int x1)]) : W p l e { frames := 3, cells := 0, slots := 0, locals := 61 } s m args below meth c H locs 0 0 (MQ below (xQ D dA s0 (some (.int ro)) T N Z Io Lo R) args s 0 0 (fun q => s0 ≤ q)) (F0 m 47 ls [.int z1, .ref z0]) := by
  have hx := X.1.1
  have hb := X.1.2.1
  unfold fX5_behindTest_b47 at hf
  refine lv_aload_n (pc := 47) hx hb dX5_behindTest_47 rfl (lv_at hl 0 rfl) ?_
  replace hf := tg_s hf; obtain ⟨ht1, hf⟩ := hf
  refine x_get (pc := 48) X V okX5 ht1 23 (by decide) q1544 (v := .int (I x0 23)) rfl dX5_behindTest_48 ?_
  replace hf := tg_s hf; obtain ⟨ht4, hf⟩ := hf
  replace hf := bs hf; obtain ⟨I2, hk_3, hf⟩ := hf
  refine x_callV0 (pc := 51) (As := [.int z1, .int (I x0 23)]) (rest := []) X V (mX5_push l D dA s0 hk_3) okX5 ht4 q1889 q1891 qs71 q129 q1892 ⟨rfl, hsX5_push⟩ ⟨Nat.le_of_ble_eq_true rfl, Nat.le_of_ble_eq_true rfl⟩ rfl hl.1 rfl (Nat.le_of_ble_eq_true rfl) dX5_behindTest_51 ⟨Nat.zero_le _, Nat.zero_le _⟩ (fun H locs V => W.eq (g2 := F0 m 54 ls []) rfl ?_)
  refine lv_aload_n (pc := 54) hx hb dX5_behindTest_54 rfl (lv_at hl 0 rfl) ?_
  refine lv_iload_n (pc := 55) hx hb dX5_behindTest_55 rfl (lv_at hl 1 rfl) ?_
  refine lv_if_eq (pc := 56) (tgt := 64) hx hb dX5_behindTest_56 (by decide) (fun c5 => ?_) (fun c5 => ?_)
  · replace hf := if_t hf c5
    refine lv_bipush (pc := 64) (v := (ii 30)) hx hb dX5_behindTest_64 (by decide) ?_
    exact wX5_behindTest_b66 X hr hf V (lv_sub hl [0] rfl)
  · replace hf := if_f hf c5
    refine lv_bipush (pc := 59) (v := (ii 29)) hx hb dX5_behindTest_59 (by decide) ?_
    refine lv_goto (pc := 61) (tgt := 66) hx hb dX5_behindTest_61 (by decide) ?_
    exact wX5_behindTest_b66 X hr hf V (lv_sub hl [0] rfl)
set_option maxHeartbeats 400000 in
set_option maxRecDepth 100000 in
theorem wX5_behindTest_b32 {nf : Nat} {p : Program} {l : Launch} {e : Env} {s : State} {m : MethodId} {args : Array Value} {below : List Frame} {meth : Method} {c : Code} {D : va_G} {dA : Nat → ClassId} {s0 : Nat} {T : xT} {N : xT} {Z : Nat} {I : xI} {L : xL} {R : xR} {H : Heap} {locs : List Loc} {ls : Array Slot}  {x0 : Nat} {x1 : Int32} {z0 : Nat} {z1 : Int32} {ro : Int32} {Io : xI} {Lo : xL} (X : Cx D dA s0 p m c cX5_behindTest 2 s args RX5 meth) (hr : meth.sig.returnType = (some .int))   (hf : fX5_behindTest_b32 nf T N I L R x0 x1 z0 z1 = some (ro, Io, Lo)) (V : Iv D dA s0 s T N Z I L R H locs) (hl : lv_has ls 2 [(0, .ref x0), (1, .int x1)]) : W p l e { frames := 3, cells := 0, slots := 0, locals := 61 } s m args below meth c H locs 0 0 (MQ below (xQ D dA s0 (some (.int ro)) T N Z Io Lo R) args s 0 0 (fun q => s0 ≤ q)) (F0 m 32 ls [.int z1, .ref z0]) := by
  have hx := X.1.1
  have hb := X.1.2.1
  unfold fX5_behindTest_b32 at hf
  replace hf := tg_s hf; obtain ⟨ht3, hf⟩ := hf
  replace hf := bs hf; obtain ⟨I1, hk_2, hf⟩ := hf
  refine x_callV0 (pc := 32) (As := [.int z1]) (rest := []) X V (mX5_settle l D dA s0 hk_2) okX5 ht3 q1934 q1936 qs81 q129 q1937 ⟨rfl, hsX5_settle⟩ ⟨Nat.le_of_ble_eq_true rfl, Nat.le_of_ble_eq_true rfl⟩ rfl hl.1 rfl (Nat.le_of_ble_eq_true rfl) dX5_behindTest_32 ⟨Nat.zero_le _, Nat.zero_le _⟩ (fun H locs V => W.eq (g2 := F0 m 35 ls []) rfl ?_)
  refine lv_aload_n (pc := 35) hx hb dX5_behindTest_35 rfl (lv_at hl 0 rfl) ?_
  refine lv_iload_n (pc := 36) hx hb dX5_behindTest_36 rfl (lv_at hl 1 rfl) ?_
  refine lv_if_eq (pc := 37) (tgt := 45) hx hb dX5_behindTest_37 (by decide) (fun c4 => ?_) (fun c4 => ?_)
  · replace hf := if_t hf c4
    refine lv_bipush (pc := 45) (v := (ii 30)) hx hb dX5_behindTest_45 (by decide) ?_
    exact wX5_behindTest_b47 X hr hf V (lv_sub hl [0, 1] rfl)
  · replace hf := if_f hf c4
    refine lv_bipush (pc := 40) (v := (ii 29)) hx hb dX5_behindTest_40 (by decide) ?_
    refine lv_goto (pc := 42) (tgt := 47) hx hb dX5_behindTest_42 (by decide) ?_
    exact wX5_behindTest_b47 X hr hf V (lv_sub hl [0, 1] rfl)
set_option maxHeartbeats 400000 in
set_option maxRecDepth 100000 in
theorem wX5_behindTest_b22 {nf : Nat} {p : Program} {l : Launch} {e : Env} {s : State} {m : MethodId} {args : Array Value} {below : List Frame} {meth : Method} {c : Code} {D : va_G} {dA : Nat → ClassId} {s0 : Nat} {T : xT} {N : xT} {Z : Nat} {I : xI} {L : xL} {R : xR} {H : Heap} {locs : List Loc} {ls : Array Slot}  {x0 : Nat} {x1 : Int32} {ro : Int32} {Io : xI} {Lo : xL} (X : Cx D dA s0 p m c cX5_behindTest 2 s args RX5 meth) (hr : meth.sig.returnType = (some .int))   (hf : fX5_behindTest_b22 nf T N I L R x0 x1 = some (ro, Io, Lo)) (V : Iv D dA s0 s T N Z I L R H locs) (hl : lv_has ls 2 [(0, .ref x0), (1, .int x1)]) : W p l e { frames := 3, cells := 0, slots := 0, locals := 61 } s m args below meth c H locs 0 0 (MQ below (xQ D dA s0 (some (.int ro)) T N Z Io Lo R) args s 0 0 (fun q => s0 ≤ q)) (F0 m 22 ls []) := by
  have hx := X.1.1
  have hb := X.1.2.1
  unfold fX5_behindTest_b22 at hf
  refine lv_aload_n (pc := 22) hx hb dX5_behindTest_22 rfl (lv_at hl 0 rfl) ?_
  refine lv_iload_n (pc := 23) hx hb dX5_behindTest_23 rfl (lv_at hl 1 rfl) ?_
  refine lv_if_eq (pc := 24) (tgt := 31) hx hb dX5_behindTest_24 (by decide) (fun c1 => ?_) (fun c1 => ?_)
  · replace hf := if_t hf c1
    refine lv_iconst (pc := 31) (v := (ii 1)) hx hb dX5_behindTest_31 (by decide) ?_
    exact wX5_behindTest_b32 X hr hf V (lv_sub hl [0, 1] rfl)
  · replace hf := if_f hf c1
    refine lv_iconst (pc := 27) (v := (ii 2)) hx hb dX5_behindTest_27 (by decide) ?_
    refine lv_goto (pc := 28) (tgt := 32) hx hb dX5_behindTest_28 (by decide) ?_
    exact wX5_behindTest_b32 X hr hf V (lv_sub hl [0, 1] rfl)
set_option maxHeartbeats 400000 in
set_option maxRecDepth 100000 in
theorem wX5_behindTest_e {nf : Nat} {p : Program} {l : Launch} {e : Env} {s : State} {m : MethodId} {args : Array Value} {below : List Frame} {meth : Method} {c : Code} {D : va_G} {dA : Nat → ClassId} {s0 : Nat} {T : xT} {N : xT} {Z : Nat} {I : xI} {L : xL} {R : xR} {H : Heap} {locs : List Loc} {ls : Array Slot} {x0 : Nat} {ro : Int32} {Io : xI} {Lo : xL} (X : Cx D dA s0 p m c cX5_behindTest 2 s args RX5 meth) (hr : meth.sig.returnType = (some .int)) (hf : fX5_behindTest nf T N I L R x0 = some (ro, Io, Lo)) (V : Iv D dA s0 s T N Z I L R H locs) (hl : lv_has ls 2 [(0, .ref x0)]) : W p l e { frames := 3, cells := 0, slots := 0, locals := 61 } s m args below meth c H locs 0 0 (MQ below (xQ D dA s0 (some (.int ro)) T N Z Io Lo R) args s 0 0 (fun q => s0 ≤ q)) (F0 m 0 ls []) := by
  have hx := X.1.1
  have hb := X.1.2.1
  unfold fX5_behindTest at hf
  refine lv_aload_n (pc := 0) hx hb dX5_behindTest_0 rfl (lv_at hl 0 rfl) ?_
  refine lv_ldc2 (pc := 1) (v := (jj 1476)) hx hb X.1.2.2.2.1 (X.1.2.2.2.2 _ q1954) dX5_behindTest_1 ?_
  replace hf := tg_s hf; obtain ⟨ht3, hf⟩ := hf
  replace hf := bs hf; obtain ⟨r1, hk_2, hf⟩ := hf
  refine x_callV0 (pc := 4) (As := [.long (jj 1476)]) (rest := []) X V (mX5_isWord l D dA s0 hk_2) okX5 ht3 q1872 q1874 qs67 q129 q1875 ⟨rfl, hsX5_isWord⟩ ⟨Nat.le_of_ble_eq_true rfl, Nat.le_of_ble_eq_true rfl⟩ rfl hl.1 rfl (Nat.le_of_ble_eq_true rfl) dX5_behindTest_4 ⟨Nat.zero_le _, Nat.zero_le _⟩ (fun H locs V => W.eq (g2 := F0 m 7 ls [.int r1]) rfl ?_)
  refine lv_istore_n (pc := 7) (lv' := [(1, .int r1), (0, .ref x0)]) hx hb dX5_behindTest_7 rfl hl (by decide) rfl (fun ls hl => ?_)
  refine lv_iload_n (pc := 8) hx hb dX5_behindTest_8 rfl (lv_at hl 0 rfl) ?_
  refine lv_if_ne (pc := 9) (tgt := 22) hx hb dX5_behindTest_9 (by decide) (fun c4 => ?_) (fun c4 => ?_)
  · replace hf := if_f hf c4
    exact wX5_behindTest_b22 X hr hf V (lv_sub hl [1, 0] rfl)
  · replace hf := if_t hf c4
    refine lv_aload_n (pc := 12) hx hb dX5_behindTest_12 rfl (lv_at hl 1 rfl) ?_
    refine lv_ldc2 (pc := 13) (v := (jj 498)) hx hb X.1.2.2.2.1 (X.1.2.2.2.2 _ q1955) dX5_behindTest_13 ?_
    replace hf := bs hf; obtain ⟨r5, hk_6, hf⟩ := hf
    refine x_callV0 (pc := 16) (As := [.long (jj 498)]) (rest := []) X V (mX5_isWord l D dA s0 hk_6) okX5 ht3 q1872 q1874 qs67 q129 q1875 ⟨rfl, hsX5_isWord⟩ ⟨Nat.le_of_ble_eq_true rfl, Nat.le_of_ble_eq_true rfl⟩ rfl hl.1 rfl (Nat.le_of_ble_eq_true rfl) dX5_behindTest_16 ⟨Nat.zero_le _, Nat.zero_le _⟩ (fun H locs V => W.eq (g2 := F0 m 19 ls [.int r5]) rfl ?_)
    refine lv_if_eq (pc := 19) (tgt := 76) hx hb dX5_behindTest_19 (by decide) (fun c7 => ?_) (fun c7 => ?_)
    · replace hf := if_t hf c7
      refine lv_aload_n (pc := 76) hx hb dX5_behindTest_76 rfl (lv_at hl 1 rfl) ?_
      replace hf := bs hf; obtain ⟨r8, hk_9, hf⟩ := hf
      refine x_callV0 (pc := 77) (As := []) (rest := []) X V (mX5_inner l D dA s0 hk_9) okX5 ht3 q1938 q1940 qs82 q129 q1941 ⟨rfl, hsX5_inner⟩ ⟨Nat.le_of_ble_eq_true rfl, Nat.le_of_ble_eq_true rfl⟩ rfl hl.1 rfl (Nat.le_of_ble_eq_true rfl) dX5_behindTest_77 ⟨Nat.zero_le _, Nat.zero_le _⟩ (fun H locs V => W.eq (g2 := F0 m 80 ls [.int r8]) rfl ?_)
      refine lv_iconst (pc := 80) (v := (-1 : Int32)) hx hb dX5_behindTest_80 (by decide) ?_
      refine lv_icmp_ne (pc := 81) (tgt := 86) hx hb dX5_behindTest_81 (by decide) (fun c10 => ?_) (fun c10 => ?_)
      · replace hf := if_f hf c10
        refine lv_aload_n (pc := 86) hx hb dX5_behindTest_86 rfl (lv_at hl 1 rfl) ?_
        refine lv_aload_n (pc := 87) hx hb dX5_behindTest_87 rfl (lv_at hl 1 rfl) ?_
        refine lv_bipush (pc := 88) (v := (ii 41)) hx hb dX5_behindTest_88 (by decide) ?_
        replace hf := bs hf; obtain ⟨r11, hk_12, hf⟩ := hf
        refine x_callV0 (pc := 90) (As := [.int (ii 41)]) (rest := [.ref x0]) X V (mX5_isSign l D dA s0 hk_12) okX5 ht3 q1893 q1895 qs72 q129 q1896 ⟨rfl, hsX5_isSign⟩ ⟨Nat.le_of_ble_eq_true rfl, Nat.le_of_ble_eq_true rfl⟩ rfl hl.1 rfl (Nat.le_of_ble_eq_true rfl) dX5_behindTest_90 ⟨Nat.zero_le _, Nat.zero_le _⟩ (fun H locs V => W.eq (g2 := F0 m 93 ls [.int r11, .ref x0]) rfl ?_)
        replace hf := b2s hf; obtain ⟨I13, L14, hk_15, hf⟩ := hf
        refine x_callV0 (pc := 93) (As := [.int r11]) (rest := []) X V (mX5_must l D dA s0 hk_15) okX5 ht3 q1876 q1878 qs68 q129 q1879 ⟨rfl, hsX5_must⟩ ⟨Nat.le_of_ble_eq_true rfl, Nat.le_of_ble_eq_true rfl⟩ rfl hl.1 rfl (Nat.le_of_ble_eq_true rfl) dX5_behindTest_93 ⟨Nat.zero_le _, Nat.zero_le _⟩ (fun H locs V => W.eq (g2 := F0 m 96 ls []) rfl ?_)
        refine lv_aload_n (pc := 96) hx hb dX5_behindTest_96 rfl (lv_at hl 1 rfl) ?_
        refine x_get (pc := 97) X V okX5 ht3 19 (by decide) q1540 (v := .int (I13 x0 19)) rfl dX5_behindTest_97 ?_
        refine lv_if_ne (pc := 100) (tgt := 128) hx hb dX5_behindTest_100 (by decide) (fun c16 => ?_) (fun c16 => ?_)
        · replace hf := if_f hf c16
          refine lv_iconst (pc := 128) (v := (ii 2)) hx hb dX5_behindTest_128 (by decide) ?_
          cases hf
          exact x_iret (pc := 129) X V hr dX5_behindTest_129
        · replace hf := if_t hf c16
          refine lv_aload_n (pc := 103) hx hb dX5_behindTest_103 rfl (lv_at hl 1 rfl) ?_
          refine lv_iconst (pc := 104) (v := (ii 1)) hx hb dX5_behindTest_104 (by decide) ?_
          replace hf := bs hf; obtain ⟨I17, hk_18, hf⟩ := hf
          refine x_callV0 (pc := 105) (As := [.int (ii 1)]) (rest := []) X V (mX5_settle l D dA s0 hk_18) okX5 ht3 q1934 q1936 qs81 q129 q1937 ⟨rfl, hsX5_settle⟩ ⟨Nat.le_of_ble_eq_true rfl, Nat.le_of_ble_eq_true rfl⟩ rfl hl.1 rfl (Nat.le_of_ble_eq_true rfl) dX5_behindTest_105 ⟨Nat.zero_le _, Nat.zero_le _⟩ (fun H locs V => W.eq (g2 := F0 m 108 ls []) rfl ?_)
          refine lv_aload_n (pc := 108) hx hb dX5_behindTest_108 rfl (lv_at hl 1 rfl) ?_
          refine lv_dup (pc := 109) hx hb dX5_behindTest_109 rfl ?_
          refine x_get (pc := 110) X V okX5 ht3 29 (by decide) q1550 (v := .int (I17 x0 29)) rfl dX5_behindTest_110 ?_
          refine lv_iconst (pc := 113) (v := (ii 1)) hx hb dX5_behindTest_113 (by decide) ?_
          refine lv_isub (pc := 114) hx hb dX5_behindTest_114 ?_
          replace hf := nm_s hf; obtain ⟨I19, hI19, hf⟩ := hf
          refine x_puti (pc := 115) X V okX5 (by decide) ht3 29 (by decide) q1550 (Or.inl rfl) hI19 (fun _ _ _ => rfl) rfl rfl dX5_behindTest_115 (fun H locs V => ?_)
          refine lv_aload_n (pc := 118) hx hb dX5_behindTest_118 rfl (lv_at hl 1 rfl) ?_
          refine lv_dup (pc := 119) hx hb dX5_behindTest_119 rfl ?_
          refine x_get (pc := 120) X V okX5 ht3 30 (by decide) q1551 (v := .int (I19 x0 30)) rfl dX5_behindTest_120 ?_
          refine lv_iconst (pc := 123) (v := (ii 1)) hx hb dX5_behindTest_123 (by decide) ?_
          refine lv_isub (pc := 124) hx hb dX5_behindTest_124 ?_
          replace hf := nm_s hf; obtain ⟨I20, hI20, hf⟩ := hf
          refine x_puti (pc := 125) X V okX5 (by decide) ht3 30 (by decide) q1551 (Or.inl rfl) hI20 (fun _ _ _ => rfl) rfl rfl dX5_behindTest_125 (fun H locs V => ?_)
          refine lv_iconst (pc := 128) (v := (ii 2)) hx hb dX5_behindTest_128 (by decide) ?_
          cases hf
          exact x_iret (pc := 129) X V hr dX5_behindTest_129
      · replace hf := if_t hf c10
        refine lv_iconst (pc := 84) (v := (ii 4)) hx hb dX5_behindTest_84 (by decide) ?_
        cases hf
        exact x_iret (pc := 85) X V hr dX5_behindTest_85
    · replace hf := if_f hf c7
      exact wX5_behindTest_b22 X hr hf V (lv_sub hl [1, 0] rfl)
theorem mX5_behindTest {nf : Nat} (l : Launch) (D : va_G) (dA : Nat → ClassId) (s0 : Nat) {T : xT} {N : xT} {Z : Nat} {I : xI} {L : xL} {R : xR} {x0 : Nat} {ro : Int32} {Io : xI} {Lo : xL} (hf : fX5_behindTest nf T N I L R x0 = some (ro, Io, Lo)) : XMet l D dA s0 yX5_behindTest (ws_ yX5_behindTest cX5_behindTest 2 ((some .int))) (3) (61) [.ref x0] T N Z I L R (some (.int ro)) T N Z Io Lo R 0 0 :=
  x_start (own := RX5) rfl (by decide) (Nat.le_of_ble_eq_true rfl) (lv := [(0, .ref x0)]) rfl (fun p e s m below meth c ls X hr hini V hl => wX5_behindTest_e X hr hf V hl)
set_option maxHeartbeats 400000 in
set_option maxRecDepth 100000 in
theorem wX5_readExpression_b20 {nf : Nat} {p : Program} {l : Launch} {e : Env} {s : State} {m : MethodId} {args : Array Value} {below : List Frame} {meth : Method} {c : Code} {D : va_G} {dA : Nat → ClassId} {s0 : Nat} {T : xT} {N : xT} {Z : Nat} {R : xR}  {Io : xI} {Lo : xL} (X : Cx D dA s0 p m c cX5_readExpression 3 s args RX5 meth) (hr : meth.sig.returnType = none)   (k : Nat) : ∀ {I : xI} {L : xL} {x0 : Nat} {x1 : Int32} {x2 : Int32} {H : Heap} {locs : List Loc} {ls : Array Slot} , fX5_readExpression_b20 nf T N R k I L x0 x1 x2 = some (Io, Lo) → Iv D dA s0 s T N Z I L R H locs → lv_has ls 3 [(0, .ref x0), (1, .int x1), (2, .int x2)] → W p l e { frames := 6, cells := 0, slots := 0, locals := 129 } s m args below meth c H locs 0 0 (MQ below (xQ D dA s0 none T N Z Io Lo R) args s 0 0 (fun q => s0 ≤ q)) (F0 m 20 ls []) := by
  have hx := X.1.1
  have hb := X.1.2.1
  induction k with
  | zero =>
    intro I L x0 x1 x2 H locs ls hf V hl
    exact absurd (show none = some _ from hf) (fun q => nomatch q)
  | succ k ih =>
    intro I L x0 x1 x2 H locs ls hf V hl
    rw [fX5_readExpression_b20] at hf
    refine lv_aload_n (pc := 20) hx hb dX5_readExpression_20 rfl (lv_at hl 0 rfl) ?_
    replace hf := tg_s hf; obtain ⟨ht1, hf⟩ := hf
    refine x_get (pc := 21) X V okX5 ht1 19 (by decide) q1540 (v := .int (I x0 19)) rfl dX5_readExpression_21 ?_
    refine lv_if_ne (pc := 24) (tgt := 76) hx hb dX5_readExpression_24 (by decide) (fun c2 => ?_) (fun c2 => ?_)
    · replace hf := if_f hf c2
      refine lv_aload_n (pc := 76) hx hb dX5_readExpression_76 rfl (lv_at hl 0 rfl) ?_
      refine lv_iconst (pc := 77) (v := (ii 1)) hx hb dX5_readExpression_77 (by decide) ?_
      replace hf := bs hf; obtain ⟨I3, hk_4, hf⟩ := hf
      refine x_callV0 (pc := 78) (As := [.int (ii 1)]) (rest := []) X V (mX5_settle l D dA s0 hk_4) okX5 ht1 q1934 q1936 qs81 q129 q1937 ⟨rfl, hsX5_settle⟩ ⟨Nat.le_of_ble_eq_true rfl, Nat.le_of_ble_eq_true rfl⟩ rfl hl.1 rfl (Nat.le_of_ble_eq_true rfl) dX5_readExpression_78 ⟨Nat.zero_le _, Nat.zero_le _⟩ (fun H locs V => W.eq (g2 := F0 m 81 ls []) rfl ?_)
      cases hf
      exact x_vret (pc := 81) X V hr dX5_readExpression_81
    · replace hf := if_t hf c2
      refine lv_iload_n (pc := 27) hx hb dX5_readExpression_27 rfl (lv_at hl 2 rfl) ?_
      refine lv_iconst (pc := 28) (v := (ii 4)) hx hb dX5_readExpression_28 (by decide) ?_
      refine lv_icmp_eq (pc := 29) (tgt := 76) hx hb dX5_readExpression_29 (by decide) (fun c5 => ?_) (fun c5 => ?_)
      · replace hf := if_t hf c5
        refine lv_aload_n (pc := 76) hx hb dX5_readExpression_76 rfl (lv_at hl 0 rfl) ?_
        refine lv_iconst (pc := 77) (v := (ii 1)) hx hb dX5_readExpression_77 (by decide) ?_
        replace hf := bs hf; obtain ⟨I6, hk_7, hf⟩ := hf
        refine x_callV0 (pc := 78) (As := [.int (ii 1)]) (rest := []) X V (mX5_settle l D dA s0 hk_7) okX5 ht1 q1934 q1936 qs81 q129 q1937 ⟨rfl, hsX5_settle⟩ ⟨Nat.le_of_ble_eq_true rfl, Nat.le_of_ble_eq_true rfl⟩ rfl hl.1 rfl (Nat.le_of_ble_eq_true rfl) dX5_readExpression_78 ⟨Nat.zero_le _, Nat.zero_le _⟩ (fun H locs V => W.eq (g2 := F0 m 81 ls []) rfl ?_)
        cases hf
        exact x_vret (pc := 81) X V hr dX5_readExpression_81
      · replace hf := if_f hf c5
        refine lv_iload_n (pc := 32) hx hb dX5_readExpression_32 rfl (lv_at hl 2 rfl) ?_
        refine lv_if_ne (pc := 33) (tgt := 43) hx hb dX5_readExpression_33 (by decide) (fun c8 => ?_) (fun c8 => ?_)
        · replace hf := if_f hf c8
          refine lv_iload_n (pc := 43) hx hb dX5_readExpression_43 rfl (lv_at hl 2 rfl) ?_
          refine lv_iconst (pc := 44) (v := (ii 1)) hx hb dX5_readExpression_44 (by decide) ?_
          refine lv_icmp_ne (pc := 45) (tgt := 55) hx hb dX5_readExpression_45 (by decide) (fun c9 => ?_) (fun c9 => ?_)
          · replace hf := if_f hf c9
            refine lv_iload_n (pc := 55) hx hb dX5_readExpression_55 rfl (lv_at hl 2 rfl) ?_
            refine lv_iconst (pc := 56) (v := (ii 3)) hx hb dX5_readExpression_56 (by decide) ?_
            refine lv_icmp_ne (pc := 57) (tgt := 68) hx hb dX5_readExpression_57 (by decide) (fun c10 => ?_) (fun c10 => ?_)
            · replace hf := if_f hf c10
              refine lv_aload_n (pc := 68) hx hb dX5_readExpression_68 rfl (lv_at hl 0 rfl) ?_
              replace hf := b3s hf; obtain ⟨r11, I12, L13, hk_14, hf⟩ := hf
              refine x_callV0 (pc := 69) (As := []) (rest := []) X V (mX5_behindTest l D dA s0 hk_14) okX5 ht1 q1950 q1952 qs84 q129 q1953 ⟨rfl, hsX5_behindTest⟩ ⟨Nat.le_of_ble_eq_true rfl, Nat.le_of_ble_eq_true rfl⟩ rfl hl.1 rfl (Nat.le_of_ble_eq_true rfl) dX5_readExpression_69 ⟨Nat.zero_le _, Nat.zero_le _⟩ (fun H locs V => W.eq (g2 := F0 m 72 ls [.int r11]) rfl ?_)
              refine lv_istore_n (pc := 72) (lv' := [(2, .int r11), (0, .ref x0), (1, .int x1)]) hx hb dX5_readExpression_72 rfl hl (by decide) rfl (fun ls hl => ?_)
              refine lv_goto (pc := 73) (tgt := 20) hx hb dX5_readExpression_73 (by decide) ?_
              exact ih hf V (lv_sub hl [1, 2, 0] rfl)
            · replace hf := if_t hf c10
              refine lv_aload_n (pc := 60) hx hb dX5_readExpression_60 rfl (lv_at hl 0 rfl) ?_
              refine lv_iload_n (pc := 61) hx hb dX5_readExpression_61 rfl (lv_at hl 1 rfl) ?_
              replace hf := b3s hf; obtain ⟨r15, I16, L17, hk_18, hf⟩ := hf
              refine x_callV0 (pc := 62) (As := [.int x1]) (rest := []) X V (mX5_behindSum l D dA s0 hk_18) okX5 ht1 q1927 q1929 qs80 q129 q1930 ⟨rfl, hsX5_behindSum⟩ ⟨Nat.le_of_ble_eq_true rfl, Nat.le_of_ble_eq_true rfl⟩ rfl hl.1 rfl (Nat.le_of_ble_eq_true rfl) dX5_readExpression_62 ⟨Nat.zero_le _, Nat.zero_le _⟩ (fun H locs V => W.eq (g2 := F0 m 65 ls [.int r15]) rfl ?_)
              refine lv_goto (pc := 65) (tgt := 72) hx hb dX5_readExpression_65 (by decide) ?_
              refine lv_istore_n (pc := 72) (lv' := [(2, .int r15), (0, .ref x0), (1, .int x1)]) hx hb dX5_readExpression_72 rfl hl (by decide) rfl (fun ls hl => ?_)
              refine lv_goto (pc := 73) (tgt := 20) hx hb dX5_readExpression_73 (by decide) ?_
              exact ih hf V (lv_sub hl [1, 2, 0] rfl)
          · replace hf := if_t hf c9
            refine lv_aload_n (pc := 48) hx hb dX5_readExpression_48 rfl (lv_at hl 0 rfl) ?_
            replace hf := b3s hf; obtain ⟨r19, I20, L21, hk_22, hf⟩ := hf
            refine x_callV0 (pc := 49) (As := []) (rest := []) X V (mX5_readPart l D dA s0 hk_22) okX5 ht1 q1901 q1903 qs74 q129 q1904 ⟨rfl, hsX5_readPart⟩ ⟨Nat.le_of_ble_eq_true rfl, Nat.le_of_ble_eq_true rfl⟩ rfl hl.1 rfl (Nat.le_of_ble_eq_true rfl) dX5_readExpression_49 ⟨Nat.zero_le _, Nat.zero_le _⟩ (fun H locs V => W.eq (g2 := F0 m 52 ls [.int r19]) rfl ?_)
            refine lv_goto (pc := 52) (tgt := 72) hx hb dX5_readExpression_52 (by decide) ?_
            refine lv_istore_n (pc := 72) (lv' := [(2, .int r19), (0, .ref x0), (1, .int x1)]) hx hb dX5_readExpression_72 rfl hl (by decide) rfl (fun ls hl => ?_)
            refine lv_goto (pc := 73) (tgt := 20) hx hb dX5_readExpression_73 (by decide) ?_
            exact ih hf V (lv_sub hl [1, 2, 0] rfl)
        · replace hf := if_t hf c8
          refine lv_aload_n (pc := 36) hx hb dX5_readExpression_36 rfl (lv_at hl 0 rfl) ?_
          replace hf := b3s hf; obtain ⟨r23, I24, L25, hk_26, hf⟩ := hf
          refine x_callV0 (pc := 37) (As := []) (rest := []) X V (mX5_readPlain l D dA s0 hk_26) okX5 ht1 q1884 q1886 qs70 q129 q1887 ⟨rfl, hsX5_readPlain⟩ ⟨Nat.le_of_ble_eq_true rfl, Nat.le_of_ble_eq_true rfl⟩ rfl hl.1 rfl (Nat.le_of_ble_eq_true rfl) dX5_readExpression_37 ⟨Nat.zero_le _, Nat.zero_le _⟩ (fun H locs V => W.eq (g2 := F0 m 40 ls [.int r23]) rfl ?_)
          refine lv_goto (pc := 40) (tgt := 72) hx hb dX5_readExpression_40 (by decide) ?_
          refine lv_istore_n (pc := 72) (lv' := [(2, .int r23), (0, .ref x0), (1, .int x1)]) hx hb dX5_readExpression_72 rfl hl (by decide) rfl (fun ls hl => ?_)
          refine lv_goto (pc := 73) (tgt := 20) hx hb dX5_readExpression_73 (by decide) ?_
          exact ih hf V (lv_sub hl [1, 2, 0] rfl)
set_option maxHeartbeats 400000 in
set_option maxRecDepth 100000 in
theorem wX5_readExpression_e {nf : Nat} {p : Program} {l : Launch} {e : Env} {s : State} {m : MethodId} {args : Array Value} {below : List Frame} {meth : Method} {c : Code} {D : va_G} {dA : Nat → ClassId} {s0 : Nat} {T : xT} {N : xT} {Z : Nat} {I : xI} {L : xL} {R : xR} {H : Heap} {locs : List Loc} {ls : Array Slot} {x0 : Nat} {x1 : Int32} {Io : xI} {Lo : xL} (X : Cx D dA s0 p m c cX5_readExpression 3 s args RX5 meth) (hr : meth.sig.returnType = none) (hf : fX5_readExpression nf T N I L R x0 x1 = some (Io, Lo)) (V : Iv D dA s0 s T N Z I L R H locs) (hl : lv_has ls 3 [(0, .ref x0), (1, .int x1)]) : W p l e { frames := 6, cells := 0, slots := 0, locals := 129 } s m args below meth c H locs 0 0 (MQ below (xQ D dA s0 none T N Z Io Lo R) args s 0 0 (fun q => s0 ≤ q)) (F0 m 0 ls []) := by
  have hx := X.1.1
  have hb := X.1.2.1
  unfold fX5_readExpression at hf
  refine lv_aload_n (pc := 0) hx hb dX5_readExpression_0 rfl (lv_at hl 0 rfl) ?_
  refine lv_iconst (pc := 1) (v := (ii 0)) hx hb dX5_readExpression_1 (by decide) ?_
  replace hf := tg_s hf; obtain ⟨ht1, hf⟩ := hf
  replace hf := nm_s hf; obtain ⟨I2, hI2, hf⟩ := hf
  refine x_puti (pc := 2) X V okX5 (by decide) ht1 29 (by decide) q1550 (Or.inl rfl) hI2 (fun _ _ _ => rfl) rfl rfl dX5_readExpression_2 (fun H locs V => ?_)
  refine lv_aload_n (pc := 5) hx hb dX5_readExpression_5 rfl (lv_at hl 0 rfl) ?_
  refine lv_iconst (pc := 6) (v := (ii 0)) hx hb dX5_readExpression_6 (by decide) ?_
  replace hf := nm_s hf; obtain ⟨I3, hI3, hf⟩ := hf
  refine x_puti (pc := 7) X V okX5 (by decide) ht1 30 (by decide) q1551 (Or.inl rfl) hI3 (fun _ _ _ => rfl) rfl rfl dX5_readExpression_7 (fun H locs V => ?_)
  refine lv_iload_n (pc := 10) hx hb dX5_readExpression_10 rfl (lv_at hl 1 rfl) ?_
  refine lv_if_eq (pc := 11) (tgt := 18) hx hb dX5_readExpression_11 (by decide) (fun c4 => ?_) (fun c4 => ?_)
  · replace hf := if_t hf c4
    refine lv_iconst (pc := 18) (v := (ii 1)) hx hb dX5_readExpression_18 (by decide) ?_
    refine lv_istore_n (pc := 19) (lv' := [(2, .int (ii 1)), (0, .ref x0), (1, .int x1)]) hx hb dX5_readExpression_19 rfl hl (by decide) rfl (fun ls hl => ?_)
    exact wX5_readExpression_b20 X hr nf hf V (lv_sub hl [1, 2, 0] rfl)
  · replace hf := if_f hf c4
    refine lv_iconst (pc := 14) (v := (ii 0)) hx hb dX5_readExpression_14 (by decide) ?_
    refine lv_goto (pc := 15) (tgt := 19) hx hb dX5_readExpression_15 (by decide) ?_
    refine lv_istore_n (pc := 19) (lv' := [(2, .int (ii 0)), (0, .ref x0), (1, .int x1)]) hx hb dX5_readExpression_19 rfl hl (by decide) rfl (fun ls hl => ?_)
    exact wX5_readExpression_b20 X hr nf hf V (lv_sub hl [1, 2, 0] rfl)
theorem mX5_readExpression {nf : Nat} (l : Launch) (D : va_G) (dA : Nat → ClassId) (s0 : Nat) {T : xT} {N : xT} {Z : Nat} {I : xI} {L : xL} {R : xR} {x0 : Nat} {x1 : Int32} {Io : xI} {Lo : xL} (hf : fX5_readExpression nf T N I L R x0 x1 = some (Io, Lo)) : XMet l D dA s0 yX5_readExpression (ws_ yX5_readExpression cX5_readExpression 3 (none)) (6) (129) [.ref x0, .int x1] T N Z I L R none T N Z Io Lo R 0 0 :=
  x_start (own := RX5) rfl (by decide) (Nat.le_of_ble_eq_true rfl) (lv := [(0, .ref x0), (1, .int x1)]) rfl (fun p e s m below meth c ls X hr hini V hl => wX5_readExpression_e X hr hf V hl)
set_option maxHeartbeats 400000 in
set_option maxRecDepth 100000 in
theorem wX5_readLaw_b185 {nf : Nat} {p : Program} {l : Launch} {e : Env} {s : State} {m : MethodId} {args : Array Value} {below : List Frame} {meth : Method} {c : Code} {D : va_G} {dA : Nat → ClassId} {s0 : Nat} {T : xT} {N : xT} {Z : Nat} {I : xI} {L : xL} {R : xR} {H : Heap} {locs : List Loc} {ls : Array Slot}  {x0 : Nat} {x2 : Int32} {Io : xI} {Lo : xL} (X : Cx D dA s0 p m c cX5_readLaw 4 s args RX5 meth) (hr : meth.sig.returnType = none)   (hf : fX5_readLaw_b185 nf T N I L R x0 x2 = some (Io, Lo)) (V : Iv D dA s0 s T N Z I L R H locs) (hl : lv_has ls 4 [(0, .ref x0), (2, .int x2)]) : W p l e { frames := 7, cells := 0, slots := 0, locals := 151 } s m args below meth c H locs 0 0 (MQ below (xQ D dA s0 none T N Z Io Lo R) args s 0 0 (fun q => s0 ≤ q)) (F0 m 185 ls []) := by
  have hx := X.1.1
  have hb := X.1.2.1
  unfold fX5_readLaw_b185 at hf
  refine lv_aload_n (pc := 185) hx hb dX5_readLaw_185 rfl (lv_at hl 0 rfl) ?_
  replace hf := tg_s hf; obtain ⟨ht1, hf⟩ := hf
  replace hf := bs hf; obtain ⟨a2, ha2, hf⟩ := hf
  refine x_get (pc := 186) X V okX5 ht1 22 (by decide) q1543 (v := va_rf (R x0 22)) rfl dX5_readLaw_186 ?_
  refine x_topr ha2 ?_
  refine lv_iload_n (pc := 189) hx hb dX5_readLaw_189 rfl (lv_at hl 1 rfl) ?_
  refine lv_bipush (pc := 190) (v := (ii 6)) hx hb dX5_readLaw_190 (by decide) ?_
  refine lv_iadd (pc := 192) hx hb dX5_readLaw_192 ?_
  refine lv_aload_n (pc := 193) hx hb dX5_readLaw_193 rfl (lv_at hl 0 rfl) ?_
  refine x_get (pc := 194) X V okX5 ht1 23 (by decide) q1544 (v := .int (I x0 23)) rfl dX5_readLaw_194 ?_
  replace hf := rA_s hf; obtain ⟨j3, hjj3, htj3, hij3, hf⟩ := hf
  replace hf := nm_s hf; obtain ⟨I4, hI4, hf⟩ := hf
  refine x_iast (pc := 197) X V htj3 hij3 hjj3 hI4 dX5_readLaw_197 (fun H locs V => ?_)
  cases hf
  exact x_vret (pc := 198) X V hr dX5_readLaw_198
set_option maxHeartbeats 400000 in
set_option maxRecDepth 100000 in
theorem wX5_readLaw_b135 {nf : Nat} {p : Program} {l : Launch} {e : Env} {s : State} {m : MethodId} {args : Array Value} {below : List Frame} {meth : Method} {c : Code} {D : va_G} {dA : Nat → ClassId} {s0 : Nat} {T : xT} {N : xT} {Z : Nat} {I : xI} {L : xL} {R : xR} {H : Heap} {locs : List Loc} {ls : Array Slot}  {x0 : Nat} {x2 : Int32} {Io : xI} {Lo : xL} (X : Cx D dA s0 p m c cX5_readLaw 4 s args RX5 meth) (hr : meth.sig.returnType = none)   (hf : fX5_readLaw_b135 nf T N I L R x0 x2 = some (Io, Lo)) (V : Iv D dA s0 s T N Z I L R H locs) (hl : lv_has ls 4 [(0, .ref x0), (2, .int x2)]) : W p l e { frames := 7, cells := 0, slots := 0, locals := 151 } s m args below meth c H locs 0 0 (MQ below (xQ D dA s0 none T N Z Io Lo R) args s 0 0 (fun q => s0 ≤ q)) (F0 m 135 ls []) := by
  have hx := X.1.1
  have hb := X.1.2.1
  unfold fX5_readLaw_b135 at hf
  refine lv_aload_n (pc := 135) hx hb dX5_readLaw_135 rfl (lv_at hl 0 rfl) ?_
  replace hf := tg_s hf; obtain ⟨ht1, hf⟩ := hf
  replace hf := bs hf; obtain ⟨a2, ha2, hf⟩ := hf
  refine x_get (pc := 136) X V okX5 ht1 22 (by decide) q1543 (v := va_rf (R x0 22)) rfl dX5_readLaw_136 ?_
  refine x_topr ha2 ?_
  refine lv_iload_n (pc := 139) hx hb dX5_readLaw_139 rfl (lv_at hl 1 rfl) ?_
  refine lv_iconst (pc := 140) (v := (ii 4)) hx hb dX5_readLaw_140 (by decide) ?_
  refine lv_iadd (pc := 141) hx hb dX5_readLaw_141 ?_
  refine lv_aload_n (pc := 142) hx hb dX5_readLaw_142 rfl (lv_at hl 0 rfl) ?_
  refine x_get (pc := 143) X V okX5 ht1 23 (by decide) q1544 (v := .int (I x0 23)) rfl dX5_readLaw_143 ?_
  replace hf := rA_s hf; obtain ⟨j3, hjj3, htj3, hij3, hf⟩ := hf
  replace hf := nm_s hf; obtain ⟨I4, hI4, hf⟩ := hf
  refine x_iast (pc := 146) X V htj3 hij3 hjj3 hI4 dX5_readLaw_146 (fun H locs V => ?_)
  refine lv_aload_n (pc := 147) hx hb dX5_readLaw_147 rfl (lv_at hl 0 rfl) ?_
  refine x_get (pc := 148) X V okX5 ht1 22 (by decide) q1543 (v := va_rf (R x0 22)) rfl dX5_readLaw_148 ?_
  refine x_topr ha2 ?_
  refine lv_iload_n (pc := 151) hx hb dX5_readLaw_151 rfl (lv_at hl 1 rfl) ?_
  refine lv_iconst (pc := 152) (v := (ii 5)) hx hb dX5_readLaw_152 (by decide) ?_
  refine lv_iadd (pc := 153) hx hb dX5_readLaw_153 ?_
  refine lv_aload_n (pc := 154) hx hb dX5_readLaw_154 rfl (lv_at hl 0 rfl) ?_
  refine x_get (pc := 155) X V okX5 ht1 23 (by decide) q1544 (v := .int (I4 x0 23)) rfl dX5_readLaw_155 ?_
  replace hf := rA_s hf; obtain ⟨j5, hjj5, htj5, hij5, hf⟩ := hf
  replace hf := nm_s hf; obtain ⟨I6, hI6, hf⟩ := hf
  refine x_iast (pc := 158) X V htj5 hij5 hjj5 hI6 dX5_readLaw_158 (fun H locs V => ?_)
  refine lv_aload_n (pc := 159) hx hb dX5_readLaw_159 rfl (lv_at hl 0 rfl) ?_
  refine x_get (pc := 160) X V okX5 ht1 19 (by decide) q1540 (v := .int (I6 x0 19)) rfl dX5_readLaw_160 ?_
  refine lv_if_ne (pc := 163) (tgt := 185) hx hb dX5_readLaw_163 (by decide) (fun c7 => ?_) (fun c7 => ?_)
  · replace hf := if_f hf c7
    exact wX5_readLaw_b185 X hr hf V (lv_sub hl [0, 1] rfl)
  · replace hf := if_t hf c7
    refine lv_aload_n (pc := 166) hx hb dX5_readLaw_166 rfl (lv_at hl 0 rfl) ?_
    refine lv_ldc2 (pc := 167) (v := (jj 294)) hx hb X.1.2.2.2.1 (X.1.2.2.2.2 _ q1956) dX5_readLaw_167 ?_
    replace hf := bs hf; obtain ⟨r8, hk_9, hf⟩ := hf
    refine x_callV0 (pc := 170) (As := [.long (jj 294)]) (rest := []) X V (mX5_isWord l D dA s0 hk_9) okX5 ht1 q1872 q1874 qs67 q129 q1875 ⟨rfl, hsX5_isWord⟩ ⟨Nat.le_of_ble_eq_true rfl, Nat.le_of_ble_eq_true rfl⟩ rfl hl.1 rfl (Nat.le_of_ble_eq_true rfl) dX5_readLaw_170 ⟨Nat.zero_le _, Nat.zero_le _⟩ (fun H locs V => W.eq (g2 := F0 m 173 ls [.int r8]) rfl ?_)
    refine lv_if_eq (pc := 173) (tgt := 185) hx hb dX5_readLaw_173 (by decide) (fun c10 => ?_) (fun c10 => ?_)
    · replace hf := if_t hf c10
      exact wX5_readLaw_b185 X hr hf V (lv_sub hl [0, 1] rfl)
    · replace hf := if_f hf c10
      refine lv_aload_n (pc := 176) hx hb dX5_readLaw_176 rfl (lv_at hl 0 rfl) ?_
      replace hf := b2s hf; obtain ⟨I11, L12, hk_13, hf⟩ := hf
      refine x_callV0 (pc := 177) (As := []) (rest := []) X V (mX5_next l D dA s0 hk_13) okX5 ht1 q1854 q1856 qs65 q129 q1857 ⟨rfl, hsX5_next⟩ ⟨Nat.le_of_ble_eq_true rfl, Nat.le_of_ble_eq_true rfl⟩ rfl hl.1 rfl (Nat.le_of_ble_eq_true rfl) dX5_readLaw_177 ⟨Nat.zero_le _, Nat.zero_le _⟩ (fun H locs V => W.eq (g2 := F0 m 180 ls []) rfl ?_)
      refine lv_aload_n (pc := 180) hx hb dX5_readLaw_180 rfl (lv_at hl 0 rfl) ?_
      refine lv_iconst (pc := 181) (v := (ii 1)) hx hb dX5_readLaw_181 (by decide) ?_
      replace hf := b2s hf; obtain ⟨I14, L15, hk_16, hf⟩ := hf
      refine x_callV0 (pc := 182) (As := [.int (ii 1)]) (rest := []) X V (mX5_readExpression l D dA s0 hk_16) okX5 ht1 q1880 q1882 qs69 q129 q1883 ⟨rfl, hsX5_readExpression⟩ ⟨Nat.le_of_ble_eq_true rfl, Nat.le_of_ble_eq_true rfl⟩ rfl hl.1 rfl (Nat.le_of_ble_eq_true rfl) dX5_readLaw_182 ⟨Nat.zero_le _, Nat.zero_le _⟩ (fun H locs V => W.eq (g2 := F0 m 185 ls []) rfl ?_)
      exact wX5_readLaw_b185 X hr hf V (lv_sub hl [0, 1] rfl)
set_option maxHeartbeats 400000 in
set_option maxRecDepth 100000 in
theorem wX5_readLaw_b75 {nf : Nat} {p : Program} {l : Launch} {e : Env} {s : State} {m : MethodId} {args : Array Value} {below : List Frame} {meth : Method} {c : Code} {D : va_G} {dA : Nat → ClassId} {s0 : Nat} {T : xT} {N : xT} {Z : Nat} {R : xR}  {Io : xI} {Lo : xL} (X : Cx D dA s0 p m c cX5_readLaw 4 s args RX5 meth) (hr : meth.sig.returnType = none)   (k : Nat) : ∀ {I : xI} {L : xL} {x0 : Nat} {x1 : Int32} {x2 : Int32} {x3 : Int32} {H : Heap} {locs : List Loc} {ls : Array Slot} , fX5_readLaw_b75 nf T N R k I L x0 x1 x2 x3 = some (Io, Lo) → Iv D dA s0 s T N Z I L R H locs → lv_has ls 4 [(0, .ref x0), (1, .int x1), (2, .int x2), (3, .int x3)] → W p l e { frames := 7, cells := 0, slots := 0, locals := 151 } s m args below meth c H locs 0 0 (MQ below (xQ D dA s0 none T N Z Io Lo R) args s 0 0 (fun q => s0 ≤ q)) (F0 m 75 ls []) := by
  have hx := X.1.1
  have hb := X.1.2.1
  induction k with
  | zero =>
    intro I L x0 x1 x2 x3 H locs ls hf V hl
    exact absurd (show none = some _ from hf) (fun q => nomatch q)
  | succ k ih =>
    intro I L x0 x1 x2 x3 H locs ls hf V hl
    rw [fX5_readLaw_b75] at hf
    refine lv_iload_n (pc := 75) hx hb dX5_readLaw_75 rfl (lv_at hl 3 rfl) ?_
    refine lv_bipush (pc := 76) (v := (ii 8)) hx hb dX5_readLaw_76 (by decide) ?_
    refine lv_icmp_ge (pc := 78) (tgt := 96) hx hb dX5_readLaw_78 (by decide) (fun c1 => ?_) (fun c1 => ?_)
    · replace hf := if_t hf c1
      refine lv_aload_n (pc := 96) hx hb dX5_readLaw_96 rfl (lv_at hl 0 rfl) ?_
      replace hf := tg_s hf; obtain ⟨ht2, hf⟩ := hf
      replace hf := bs hf; obtain ⟨a3, ha3, hf⟩ := hf
      refine x_get (pc := 97) X V okX5 ht2 22 (by decide) q1543 (v := va_rf (R x0 22)) rfl dX5_readLaw_97 ?_
      refine x_topr ha3 ?_
      refine lv_iload_n (pc := 100) hx hb dX5_readLaw_100 rfl (lv_at hl 2 rfl) ?_
      refine lv_iload_n (pc := 101) hx hb dX5_readLaw_101 rfl (lv_at hl 1 rfl) ?_
      replace hf := rA_s hf; obtain ⟨j4, hjj4, htj4, hij4, hf⟩ := hf
      replace hf := nm_s hf; obtain ⟨I5, hI5, hf⟩ := hf
      refine x_iast (pc := 102) X V htj4 hij4 hjj4 hI5 dX5_readLaw_102 (fun H locs V => ?_)
      refine lv_aload_n (pc := 103) hx hb dX5_readLaw_103 rfl (lv_at hl 0 rfl) ?_
      refine lv_dup (pc := 104) hx hb dX5_readLaw_104 rfl ?_
      refine x_get (pc := 105) X V okX5 ht2 21 (by decide) q1542 (v := .int (I5 x0 21)) rfl dX5_readLaw_105 ?_
      refine lv_iconst (pc := 108) (v := (ii 1)) hx hb dX5_readLaw_108 (by decide) ?_
      refine lv_iadd (pc := 109) hx hb dX5_readLaw_109 ?_
      replace hf := nm_s hf; obtain ⟨I6, hI6, hf⟩ := hf
      refine x_puti (pc := 110) X V okX5 (by decide) ht2 21 (by decide) q1542 (Or.inl rfl) hI6 (fun _ _ _ => rfl) rfl rfl dX5_readLaw_110 (fun H locs V => ?_)
      refine lv_aload_n (pc := 113) hx hb dX5_readLaw_113 rfl (lv_at hl 0 rfl) ?_
      refine x_get (pc := 114) X V okX5 ht2 22 (by decide) q1543 (v := va_rf (R x0 22)) rfl dX5_readLaw_114 ?_
      refine x_topr ha3 ?_
      refine lv_iload_n (pc := 117) hx hb dX5_readLaw_117 rfl (lv_at hl 2 rfl) ?_
      refine lv_iconst (pc := 118) (v := (ii 3)) hx hb dX5_readLaw_118 (by decide) ?_
      refine lv_iadd (pc := 119) hx hb dX5_readLaw_119 ?_
      refine lv_aload_n (pc := 120) hx hb dX5_readLaw_120 rfl (lv_at hl 0 rfl) ?_
      refine x_get (pc := 121) X V okX5 ht2 23 (by decide) q1544 (v := .int (I6 x0 23)) rfl dX5_readLaw_121 ?_
      replace hf := rA_s hf; obtain ⟨j7, hjj7, htj7, hij7, hf⟩ := hf
      replace hf := nm_s hf; obtain ⟨I8, hI8, hf⟩ := hf
      refine x_iast (pc := 124) X V htj7 hij7 hjj7 hI8 dX5_readLaw_124 (fun H locs V => ?_)
      refine lv_iload_n (pc := 125) hx hb dX5_readLaw_125 rfl (lv_at hl 1 rfl) ?_
      refine lv_iconst (pc := 126) (v := (ii 2)) hx hb dX5_readLaw_126 (by decide) ?_
      refine lv_icmp_eq (pc := 127) (tgt := 135) hx hb dX5_readLaw_127 (by decide) (fun c9 => ?_) (fun c9 => ?_)
      · replace hf := if_t hf c9
        exact wX5_readLaw_b135 X hr hf V (lv_sub hl [0, 2] rfl)
      · replace hf := if_f hf c9
        refine lv_aload_n (pc := 130) hx hb dX5_readLaw_130 rfl (lv_at hl 0 rfl) ?_
        refine lv_iconst (pc := 131) (v := (ii 0)) hx hb dX5_readLaw_131 (by decide) ?_
        replace hf := b2s hf; obtain ⟨I10, L11, hk_12, hf⟩ := hf
        refine x_callV0 (pc := 132) (As := [.int (ii 0)]) (rest := []) X V (mX5_readExpression l D dA s0 hk_12) okX5 ht2 q1880 q1882 qs69 q129 q1883 ⟨rfl, hsX5_readExpression⟩ ⟨Nat.le_of_ble_eq_true rfl, Nat.le_of_ble_eq_true rfl⟩ rfl hl.1 rfl (Nat.le_of_ble_eq_true rfl) dX5_readLaw_132 ⟨Nat.zero_le _, Nat.zero_le _⟩ (fun H locs V => W.eq (g2 := F0 m 135 ls []) rfl ?_)
        exact wX5_readLaw_b135 X hr hf V (lv_sub hl [0, 2] rfl)
    · replace hf := if_f hf c1
      refine lv_aload_n (pc := 81) hx hb dX5_readLaw_81 rfl (lv_at hl 0 rfl) ?_
      replace hf := tg_s hf; obtain ⟨ht13, hf⟩ := hf
      replace hf := bs hf; obtain ⟨a14, ha14, hf⟩ := hf
      refine x_get (pc := 82) X V okX5 ht13 22 (by decide) q1543 (v := va_rf (R x0 22)) rfl dX5_readLaw_82 ?_
      refine x_topr ha14 ?_
      refine lv_iload_n (pc := 85) hx hb dX5_readLaw_85 rfl (lv_at hl 2 rfl) ?_
      refine lv_iload_n (pc := 86) hx hb dX5_readLaw_86 rfl (lv_at hl 3 rfl) ?_
      refine lv_iadd (pc := 87) hx hb dX5_readLaw_87 ?_
      refine lv_iconst (pc := 88) (v := (ii 0)) hx hb dX5_readLaw_88 (by decide) ?_
      replace hf := rA_s hf; obtain ⟨j15, hjj15, htj15, hij15, hf⟩ := hf
      replace hf := nm_s hf; obtain ⟨I16, hI16, hf⟩ := hf
      refine x_iast (pc := 89) X V htj15 hij15 hjj15 hI16 dX5_readLaw_89 (fun H locs V => ?_)
      replace hf := nm_s hf; obtain ⟨u17, hu17, hf⟩ := hf
      refine lv_iinc (pc := 90) (v := u17) (lv' := [(3, .int u17), (0, .ref x0), (1, .int x1), (2, .int x2)]) hx hb dX5_readLaw_90 hl (k := 3) rfl (by rw [hu17]; rfl) (by decide) rfl (fun ls hl => ?_)
      refine lv_goto (pc := 93) (tgt := 75) hx hb dX5_readLaw_93 (by decide) ?_
      exact ih hf V (lv_sub hl [1, 2, 3, 0] rfl)
set_option maxHeartbeats 400000 in
set_option maxRecDepth 100000 in
theorem wX5_readLaw_b54 {nf : Nat} {p : Program} {l : Launch} {e : Env} {s : State} {m : MethodId} {args : Array Value} {below : List Frame} {meth : Method} {c : Code} {D : va_G} {dA : Nat → ClassId} {s0 : Nat} {T : xT} {N : xT} {Z : Nat} {I : xI} {L : xL} {R : xR} {H : Heap} {locs : List Loc} {ls : Array Slot}  {x0 : Nat} {x1 : Int32} {z0 : Nat} {z1 : Int32} {Io : xI} {Lo : xL} (X : Cx D dA s0 p m c cX5_readLaw 4 s args RX5 meth) (hr : meth.sig.returnType = none)   (hf : fX5_readLaw_b54 nf T N I L R x0 x1 z0 z1 = some (Io, Lo)) (V : Iv D dA s0 s T N Z I L R H locs) (hl : lv_has ls 4 [(0, .ref x0), (1, .int x1)]) : W p l e { frames := 7, cells := 0, slots := 0, locals := 151 } s m args below meth c H locs 0 0 (MQ below (xQ D dA s0 none T N Z Io Lo R) args s 0 0 (fun q => s0 ≤ q)) (F0 m 54 ls [.int z1, .ref z0]) := by
  have hx := X.1.1
  have hb := X.1.2.1
  unfold fX5_readLaw_b54 at hf
  replace hf := tg_s hf; obtain ⟨ht4, hf⟩ := hf
  replace hf := b2s hf; obtain ⟨I1, L2, hk_3, hf⟩ := hf
  refine x_callV0 (pc := 54) (As := [.int z1]) (rest := []) X V (mX5_must l D dA s0 hk_3) okX5 ht4 q1876 q1878 qs68 q129 q1879 ⟨rfl, hsX5_must⟩ ⟨Nat.le_of_ble_eq_true rfl, Nat.le_of_ble_eq_true rfl⟩ rfl hl.1 rfl (Nat.le_of_ble_eq_true rfl) dX5_readLaw_54 ⟨Nat.zero_le _, Nat.zero_le _⟩ (fun H locs V => W.eq (g2 := F0 m 57 ls []) rfl ?_)
  refine lv_aload_n (pc := 57) hx hb dX5_readLaw_57 rfl (lv_at hl 0 rfl) ?_
  replace hf := tg_s hf; obtain ⟨ht5, hf⟩ := hf
  refine x_get (pc := 58) X V okX5 ht5 19 (by decide) q1540 (v := .int (I1 x0 19)) rfl dX5_readLaw_58 ?_
  refine lv_if_eq (pc := 61) (tgt := 65) hx hb dX5_readLaw_61 (by decide) (fun c6 => ?_) (fun c6 => ?_)
  · replace hf := if_t hf c6
    refine lv_bipush (pc := 65) (v := (ii 8)) hx hb dX5_readLaw_65 (by decide) ?_
    refine lv_aload_n (pc := 67) hx hb dX5_readLaw_67 rfl (lv_at hl 0 rfl) ?_
    refine x_get (pc := 68) X V okX5 ht5 21 (by decide) q1542 (v := .int (I1 x0 21)) rfl dX5_readLaw_68 ?_
    refine lv_imul (pc := 71) hx hb dX5_readLaw_71 ?_
    replace hf := nm_s hf; obtain ⟨u7, hu7, hf⟩ := hf
    refine x_topi hu7 ?_
    refine lv_istore_n (pc := 72) (lv' := [(2, .int u7), (0, .ref x0), (1, .int x1)]) hx hb dX5_readLaw_72 rfl hl (by decide) rfl (fun ls hl => ?_)
    refine lv_iconst (pc := 73) (v := (ii 0)) hx hb dX5_readLaw_73 (by decide) ?_
    refine lv_istore_n (pc := 74) (lv' := [(3, .int (ii 0)), (2, .int u7), (0, .ref x0), (1, .int x1)]) hx hb dX5_readLaw_74 rfl hl (by decide) rfl (fun ls hl => ?_)
    exact wX5_readLaw_b75 X hr nf hf V (lv_sub hl [2, 3, 1, 0] rfl)
  · replace hf := if_f hf c6
    cases hf
    exact x_vret (pc := 64) X V hr dX5_readLaw_64
set_option maxHeartbeats 400000 in
set_option maxRecDepth 100000 in
theorem wX5_readLaw_b4 {nf : Nat} {p : Program} {l : Launch} {e : Env} {s : State} {m : MethodId} {args : Array Value} {below : List Frame} {meth : Method} {c : Code} {D : va_G} {dA : Nat → ClassId} {s0 : Nat} {T : xT} {N : xT} {Z : Nat} {R : xR}  {Io : xI} {Lo : xL} (X : Cx D dA s0 p m c cX5_readLaw 4 s args RX5 meth) (hr : meth.sig.returnType = none)   (k : Nat) : ∀ {I : xI} {L : xL} {x0 : Nat} {x1 : Int32} {x2 : Int32} {H : Heap} {locs : List Loc} {ls : Array Slot} , fX5_readLaw_b4 nf T N R k I L x0 x1 x2 = some (Io, Lo) → Iv D dA s0 s T N Z I L R H locs → lv_has ls 4 [(0, .ref x0), (1, .int x1), (2, .int x2)] → W p l e { frames := 7, cells := 0, slots := 0, locals := 151 } s m args below meth c H locs 0 0 (MQ below (xQ D dA s0 none T N Z Io Lo R) args s 0 0 (fun q => s0 ≤ q)) (F0 m 4 ls []) := by
  have hx := X.1.1
  have hb := X.1.2.1
  induction k with
  | zero =>
    intro I L x0 x1 x2 H locs ls hf V hl
    exact absurd (show none = some _ from hf) (fun q => nomatch q)
  | succ k ih =>
    intro I L x0 x1 x2 H locs ls hf V hl
    rw [fX5_readLaw_b4] at hf
    refine lv_iload_n (pc := 4) hx hb dX5_readLaw_4 rfl (lv_at hl 2 rfl) ?_
    refine lv_iconst (pc := 5) (v := (ii 3)) hx hb dX5_readLaw_5 (by decide) ?_
    refine lv_icmp_ge (pc := 6) (tgt := 34) hx hb dX5_readLaw_6 (by decide) (fun c1 => ?_) (fun c1 => ?_)
    · replace hf := if_t hf c1
      refine lv_aload_n (pc := 34) hx hb dX5_readLaw_34 rfl (lv_at hl 0 rfl) ?_
      refine lv_iload_n (pc := 35) hx hb dX5_readLaw_35 rfl (lv_at hl 1 rfl) ?_
      refine lv_iconst (pc := 36) (v := (-1 : Int32)) hx hb dX5_readLaw_36 (by decide) ?_
      refine lv_icmp_eq (pc := 37) (tgt := 53) hx hb dX5_readLaw_37 (by decide) (fun c2 => ?_) (fun c2 => ?_)
      · replace hf := if_t hf c2
        refine lv_iconst (pc := 53) (v := (ii 0)) hx hb dX5_readLaw_53 (by decide) ?_
        exact wX5_readLaw_b54 X hr hf V (lv_sub hl [0, 1] rfl)
      · replace hf := if_f hf c2
        refine lv_aload_n (pc := 40) hx hb dX5_readLaw_40 rfl (lv_at hl 0 rfl) ?_
        replace hf := tg_s hf; obtain ⟨ht3, hf⟩ := hf
        refine x_get (pc := 41) X V okX5 ht3 21 (by decide) q1542 (v := .int (I x0 21)) rfl dX5_readLaw_41 ?_
        refine lv_bipush (pc := 44) (v := (ii 12)) hx hb dX5_readLaw_44 (by decide) ?_
        refine lv_icmp_ge (pc := 46) (tgt := 53) hx hb dX5_readLaw_46 (by decide) (fun c4 => ?_) (fun c4 => ?_)
        · replace hf := if_t hf c4
          refine lv_iconst (pc := 53) (v := (ii 0)) hx hb dX5_readLaw_53 (by decide) ?_
          exact wX5_readLaw_b54 X hr hf V (lv_sub hl [0, 1] rfl)
        · replace hf := if_f hf c4
          refine lv_iconst (pc := 49) (v := (ii 1)) hx hb dX5_readLaw_49 (by decide) ?_
          refine lv_goto (pc := 50) (tgt := 54) hx hb dX5_readLaw_50 (by decide) ?_
          exact wX5_readLaw_b54 X hr hf V (lv_sub hl [0, 1] rfl)
    · replace hf := if_f hf c1
      refine lv_aload_n (pc := 9) hx hb dX5_readLaw_9 rfl (lv_at hl 0 rfl) ?_
      refine lv_aload_n (pc := 10) hx hb dX5_readLaw_10 rfl (lv_at hl 0 rfl) ?_
      replace hf := tg_s hf; obtain ⟨ht5, hf⟩ := hf
      replace hf := bs hf; obtain ⟨a6, ha6, hf⟩ := hf
      refine x_get (pc := 11) X V okX5 ht5 33 (by decide) q1554 (v := va_rf (R x0 33)) rfl dX5_readLaw_11 ?_
      refine x_topr ha6 ?_
      refine lv_iload_n (pc := 14) hx hb dX5_readLaw_14 rfl (lv_at hl 2 rfl) ?_
      replace hf := rA_s hf; obtain ⟨j7, hjj7, htj7, hij7, hf⟩ := hf
      refine x_lald (pc := 15) X V htj7 hij7 hjj7 dX5_readLaw_15 ?_
      replace hf := bs hf; obtain ⟨r8, hk_9, hf⟩ := hf
      refine x_callV0 (pc := 16) (As := [.long (L a6 j7)]) (rest := []) X V (mX5_isWord l D dA s0 hk_9) okX5 ht5 q1872 q1874 qs67 q129 q1875 ⟨rfl, hsX5_isWord⟩ ⟨Nat.le_of_ble_eq_true rfl, Nat.le_of_ble_eq_true rfl⟩ rfl hl.1 rfl (Nat.le_of_ble_eq_true rfl) dX5_readLaw_16 ⟨Nat.zero_le _, Nat.zero_le _⟩ (fun H locs V => W.eq (g2 := F0 m 19 ls [.int r8]) rfl ?_)
      refine lv_if_eq (pc := 19) (tgt := 26) hx hb dX5_readLaw_19 (by decide) (fun c10 => ?_) (fun c10 => ?_)
      · replace hf := if_t hf c10
        refine lv_iload_n (pc := 26) hx hb dX5_readLaw_26 rfl (lv_at hl 1 rfl) ?_
        refine lv_istore_n (pc := 27) (lv' := [(1, .int x1), (0, .ref x0), (2, .int x2)]) hx hb dX5_readLaw_27 rfl hl (by decide) rfl (fun ls hl => ?_)
        replace hf := nm_s hf; obtain ⟨u11, hu11, hf⟩ := hf
        refine lv_iinc (pc := 28) (v := u11) (lv' := [(2, .int u11), (1, .int x1), (0, .ref x0)]) hx hb dX5_readLaw_28 hl (k := 2) rfl (by rw [hu11]; rfl) (by decide) rfl (fun ls hl => ?_)
        refine lv_goto (pc := 31) (tgt := 4) hx hb dX5_readLaw_31 (by decide) ?_
        exact ih hf V (lv_sub hl [2, 1, 0] rfl)
      · replace hf := if_f hf c10
        refine lv_iload_n (pc := 22) hx hb dX5_readLaw_22 rfl (lv_at hl 2 rfl) ?_
        refine lv_goto (pc := 23) (tgt := 27) hx hb dX5_readLaw_23 (by decide) ?_
        refine lv_istore_n (pc := 27) (lv' := [(1, .int x2), (0, .ref x0), (2, .int x2)]) hx hb dX5_readLaw_27 rfl hl (by decide) rfl (fun ls hl => ?_)
        replace hf := nm_s hf; obtain ⟨u12, hu12, hf⟩ := hf
        refine lv_iinc (pc := 28) (v := u12) (lv' := [(2, .int u12), (1, .int x2), (0, .ref x0)]) hx hb dX5_readLaw_28 hl (k := 2) rfl (by rw [hu12]; rfl) (by decide) rfl (fun ls hl => ?_)
        refine lv_goto (pc := 31) (tgt := 4) hx hb dX5_readLaw_31 (by decide) ?_
        exact ih hf V (lv_sub hl [2, 1, 0] rfl)
set_option maxHeartbeats 400000 in
set_option maxRecDepth 100000 in
theorem wX5_readLaw_e {nf : Nat} {p : Program} {l : Launch} {e : Env} {s : State} {m : MethodId} {args : Array Value} {below : List Frame} {meth : Method} {c : Code} {D : va_G} {dA : Nat → ClassId} {s0 : Nat} {T : xT} {N : xT} {Z : Nat} {I : xI} {L : xL} {R : xR} {H : Heap} {locs : List Loc} {ls : Array Slot} {x0 : Nat} {Io : xI} {Lo : xL} (X : Cx D dA s0 p m c cX5_readLaw 4 s args RX5 meth) (hr : meth.sig.returnType = none) (hf : fX5_readLaw nf T N I L R x0 = some (Io, Lo)) (V : Iv D dA s0 s T N Z I L R H locs) (hl : lv_has ls 4 [(0, .ref x0)]) : W p l e { frames := 7, cells := 0, slots := 0, locals := 151 } s m args below meth c H locs 0 0 (MQ below (xQ D dA s0 none T N Z Io Lo R) args s 0 0 (fun q => s0 ≤ q)) (F0 m 0 ls []) := by
  have hx := X.1.1
  have hb := X.1.2.1
  unfold fX5_readLaw at hf
  refine lv_iconst (pc := 0) (v := (-1 : Int32)) hx hb dX5_readLaw_0 (by decide) ?_
  refine lv_istore_n (pc := 1) (lv' := [(1, .int (-1 : Int32)), (0, .ref x0)]) hx hb dX5_readLaw_1 rfl hl (by decide) rfl (fun ls hl => ?_)
  refine lv_iconst (pc := 2) (v := (ii 0)) hx hb dX5_readLaw_2 (by decide) ?_
  refine lv_istore_n (pc := 3) (lv' := [(2, .int (ii 0)), (1, .int (-1 : Int32)), (0, .ref x0)]) hx hb dX5_readLaw_3 rfl hl (by decide) rfl (fun ls hl => ?_)
  exact wX5_readLaw_b4 X hr nf hf V (lv_sub hl [2, 1, 0] rfl)
theorem mX5_readLaw {nf : Nat} (l : Launch) (D : va_G) (dA : Nat → ClassId) (s0 : Nat) {T : xT} {N : xT} {Z : Nat} {I : xI} {L : xL} {R : xR} {x0 : Nat} {Io : xI} {Lo : xL} (hf : fX5_readLaw nf T N I L R x0 = some (Io, Lo)) : XMet l D dA s0 yX5_readLaw (ws_ yX5_readLaw cX5_readLaw 4 (none)) (7) (151) [.ref x0] T N Z I L R none T N Z Io Lo R 0 0 :=
  x_start (own := RX5) rfl (by decide) (Nat.le_of_ble_eq_true rfl) (lv := [(0, .ref x0)]) rfl (fun p e s m below meth c ls X hr hini V hl => wX5_readLaw_e X hr hf V hl)
set_option maxHeartbeats 400000 in
set_option maxRecDepth 100000 in
theorem wX5_endText_e {nf : Nat} {p : Program} {l : Launch} {e : Env} {s : State} {m : MethodId} {args : Array Value} {below : List Frame} {meth : Method} {c : Code} {D : va_G} {dA : Nat → ClassId} {s0 : Nat} {T : xT} {N : xT} {Z : Nat} {I : xI} {L : xL} {R : xR} {H : Heap} {locs : List Loc} {ls : Array Slot} {x0 : Nat} {Io : xI} {Lo : xL} (X : Cx D dA s0 p m c cX5_endText 1 s args RX5 meth) (hr : meth.sig.returnType = none) (hf : fX5_endText nf T N I L R x0 = some (Io, Lo)) (V : Iv D dA s0 s T N Z I L R H locs) (hl : lv_has ls 1 [(0, .ref x0)]) : W p l e { frames := 3, cells := 0, slots := 0, locals := 61 } s m args below meth c H locs 0 0 (MQ below (xQ D dA s0 none T N Z Io Lo R) args s 0 0 (fun q => s0 ≤ q)) (F0 m 0 ls []) := by
  have hx := X.1.1
  have hb := X.1.2.1
  unfold fX5_endText at hf
  refine lv_aload_n (pc := 0) hx hb dX5_endText_0 rfl (lv_at hl 0 rfl) ?_
  replace hf := tg_s hf; obtain ⟨ht1, hf⟩ := hf
  refine x_get (pc := 1) X V okX5 ht1 19 (by decide) q1540 (v := .int (I x0 19)) rfl dX5_endText_1 ?_
  refine lv_if_ne (pc := 4) (tgt := 19) hx hb dX5_endText_4 (by decide) (fun c2 => ?_) (fun c2 => ?_)
  · replace hf := if_f hf c2
    refine lv_aload_n (pc := 19) hx hb dX5_endText_19 rfl (lv_at hl 0 rfl) ?_
    refine lv_iconst (pc := 20) (v := (ii 0)) hx hb dX5_endText_20 (by decide) ?_
    replace hf := nm_s hf; obtain ⟨I3, hI3, hf⟩ := hf
    refine x_puti (pc := 21) X V okX5 (by decide) ht1 20 (by decide) q1541 (Or.inl rfl) hI3 (fun _ _ _ => rfl) (by decide) (by decide) dX5_endText_21 (fun H locs V => ?_)
    refine lv_aload_n (pc := 24) hx hb dX5_endText_24 rfl (lv_at hl 0 rfl) ?_
    refine lv_iconst (pc := 25) (v := (ii 0)) hx hb dX5_endText_25 (by decide) ?_
    replace hf := nm_s hf; obtain ⟨I4, hI4, hf⟩ := hf
    refine x_puti (pc := 26) X V okX5 (by decide) ht1 13 (by decide) q1534 (Or.inl rfl) hI4 (fun _ _ _ => rfl) rfl rfl dX5_endText_26 (fun H locs V => ?_)
    cases hf
    exact x_vret (pc := 29) X V hr dX5_endText_29
  · replace hf := if_t hf c2
    refine lv_aload_n (pc := 7) hx hb dX5_endText_7 rfl (lv_at hl 0 rfl) ?_
    refine x_get (pc := 8) X V okX5 ht1 16 (by decide) q1537 (v := .int (I x0 16)) rfl dX5_endText_8 ?_
    refine lv_if_eq (pc := 11) (tgt := 19) hx hb dX5_endText_11 (by decide) (fun c5 => ?_) (fun c5 => ?_)
    · replace hf := if_t hf c5
      refine lv_aload_n (pc := 19) hx hb dX5_endText_19 rfl (lv_at hl 0 rfl) ?_
      refine lv_iconst (pc := 20) (v := (ii 0)) hx hb dX5_endText_20 (by decide) ?_
      replace hf := nm_s hf; obtain ⟨I6, hI6, hf⟩ := hf
      refine x_puti (pc := 21) X V okX5 (by decide) ht1 20 (by decide) q1541 (Or.inl rfl) hI6 (fun _ _ _ => rfl) (by decide) (by decide) dX5_endText_21 (fun H locs V => ?_)
      refine lv_aload_n (pc := 24) hx hb dX5_endText_24 rfl (lv_at hl 0 rfl) ?_
      refine lv_iconst (pc := 25) (v := (ii 0)) hx hb dX5_endText_25 (by decide) ?_
      replace hf := nm_s hf; obtain ⟨I7, hI7, hf⟩ := hf
      refine x_puti (pc := 26) X V okX5 (by decide) ht1 13 (by decide) q1534 (Or.inl rfl) hI7 (fun _ _ _ => rfl) rfl rfl dX5_endText_26 (fun H locs V => ?_)
      cases hf
      exact x_vret (pc := 29) X V hr dX5_endText_29
    · replace hf := if_f hf c5
      refine lv_aload_n (pc := 14) hx hb dX5_endText_14 rfl (lv_at hl 0 rfl) ?_
      refine lv_iconst (pc := 15) (v := (ii 0)) hx hb dX5_endText_15 (by decide) ?_
      replace hf := b2s hf; obtain ⟨I8, L9, hk_10, hf⟩ := hf
      refine x_callV0 (pc := 16) (As := [.int (ii 0)]) (rest := []) X V (mX5_must l D dA s0 hk_10) okX5 ht1 q1876 q1878 qs68 q129 q1879 ⟨rfl, hsX5_must⟩ ⟨Nat.le_of_ble_eq_true rfl, Nat.le_of_ble_eq_true rfl⟩ rfl hl.1 rfl (Nat.le_of_ble_eq_true rfl) dX5_endText_16 ⟨Nat.zero_le _, Nat.zero_le _⟩ (fun H locs V => W.eq (g2 := F0 m 19 ls []) rfl ?_)
      refine lv_aload_n (pc := 19) hx hb dX5_endText_19 rfl (lv_at hl 0 rfl) ?_
      refine lv_iconst (pc := 20) (v := (ii 0)) hx hb dX5_endText_20 (by decide) ?_
      replace hf := nm_s hf; obtain ⟨I11, hI11, hf⟩ := hf
      refine x_puti (pc := 21) X V okX5 (by decide) ht1 20 (by decide) q1541 (Or.inl rfl) hI11 (fun _ _ _ => rfl) (by decide) (by decide) dX5_endText_21 (fun H locs V => ?_)
      refine lv_aload_n (pc := 24) hx hb dX5_endText_24 rfl (lv_at hl 0 rfl) ?_
      refine lv_iconst (pc := 25) (v := (ii 0)) hx hb dX5_endText_25 (by decide) ?_
      replace hf := nm_s hf; obtain ⟨I12, hI12, hf⟩ := hf
      refine x_puti (pc := 26) X V okX5 (by decide) ht1 13 (by decide) q1534 (Or.inl rfl) hI12 (fun _ _ _ => rfl) rfl rfl dX5_endText_26 (fun H locs V => ?_)
      cases hf
      exact x_vret (pc := 29) X V hr dX5_endText_29
theorem mX5_endText {nf : Nat} (l : Launch) (D : va_G) (dA : Nat → ClassId) (s0 : Nat) {T : xT} {N : xT} {Z : Nat} {I : xI} {L : xL} {R : xR} {x0 : Nat} {Io : xI} {Lo : xL} (hf : fX5_endText nf T N I L R x0 = some (Io, Lo)) : XMet l D dA s0 yX5_endText (ws_ yX5_endText cX5_endText 1 (none)) (3) (61) [.ref x0] T N Z I L R none T N Z Io Lo R 0 0 :=
  x_start (own := RX5) rfl (by decide) (Nat.le_of_ble_eq_true rfl) (lv := [(0, .ref x0)]) rfl (fun p e s m below meth c ls X hr hini V hl => wX5_endText_e X hr hf V hl)
set_option maxHeartbeats 400000 in
set_option maxRecDepth 100000 in
theorem wX5_law_b145 {nf : Nat} {p : Program} {l : Launch} {e : Env} {s : State} {m : MethodId} {args : Array Value} {below : List Frame} {meth : Method} {c : Code} {D : va_G} {dA : Nat → ClassId} {s0 : Nat} {T : xT} {N : xT} {Z : Nat} {R : xR}  {ro : Int32} {Io : xI} {Lo : xL} (X : Cx D dA s0 p m c cX5_law 3 s args RX5 meth) (hr : meth.sig.returnType = (some .int))   (k : Nat) : ∀ {I : xI} {L : xL} {x0 : Nat} {x1 : Int32} {x2 : Int32} {H : Heap} {locs : List Loc} {ls : Array Slot} , fX5_law_b145 nf T N R k I L x0 x1 x2 = some (ro, Io, Lo) → Iv D dA s0 s T N Z I L R H locs → lv_has ls 3 [(0, .ref x0), (1, .int x1), (2, .int x2)] → W p l e { frames := 8, cells := 0, slots := 0, locals := 174 } s m args below meth c H locs 0 0 (MQ below (xQ D dA s0 (some (.int ro)) T N Z Io Lo R) args s 0 0 (fun q => s0 ≤ q)) (F0 m 145 ls []) := by
  have hx := X.1.1
  have hb := X.1.2.1
  induction k with
  | zero =>
    intro I L x0 x1 x2 H locs ls hf V hl
    exact absurd (show none = some _ from hf) (fun q => nomatch q)
  | succ k ih =>
    intro I L x0 x1 x2 H locs ls hf V hl
    rw [fX5_law_b145] at hf
    refine lv_iload_n (pc := 145) hx hb dX5_law_145 rfl (lv_at hl 2 rfl) ?_
    refine lv_aload_n (pc := 146) hx hb dX5_law_146 rfl (lv_at hl 0 rfl) ?_
    replace hf := tg_s hf; obtain ⟨ht1, hf⟩ := hf
    refine x_get (pc := 147) X V okX5 ht1 23 (by decide) q1544 (v := .int (I x0 23)) rfl dX5_law_147 ?_
    refine lv_icmp_ge (pc := 150) (tgt := 199) hx hb dX5_law_150 (by decide) (fun c2 => ?_) (fun c2 => ?_)
    · replace hf := if_t hf c2
      refine lv_aload_n (pc := 199) hx hb dX5_law_199 rfl (lv_at hl 0 rfl) ?_
      replace hf := bs hf; obtain ⟨a3, ha3, hf⟩ := hf
      refine x_get (pc := 200) X V okX5 ht1 3 (by decide) q1524 (v := va_rf (R x0 3)) rfl dX5_law_200 ?_
      refine x_topr ha3 ?_
      refine lv_iconst (pc := 203) (v := (ii 3)) hx hb dX5_law_203 (by decide) ?_
      refine lv_dup2_11 (pc := 204) hx hb dX5_law_204 rfl rfl ?_
      replace hf := rA_s hf; obtain ⟨j4, hjj4, htj4, hij4, hf⟩ := hf
      refine x_iald (pc := 205) X V htj4 hij4 hjj4 dX5_law_205 ?_
      refine lv_iconst (pc := 206) (v := (ii 1)) hx hb dX5_law_206 (by decide) ?_
      refine lv_iadd (pc := 207) hx hb dX5_law_207 ?_
      replace hf := nm_s hf; obtain ⟨I5, hI5, hf⟩ := hf
      refine x_iast (pc := 208) X V htj4 hij4 hjj4 hI5 dX5_law_208 (fun H locs V => ?_)
      refine lv_aload_n (pc := 209) hx hb dX5_law_209 rfl (lv_at hl 0 rfl) ?_
      refine lv_aload_n (pc := 210) hx hb dX5_law_210 rfl (lv_at hl 0 rfl) ?_
      refine x_get (pc := 211) X V okX5 ht1 3 (by decide) q1524 (v := va_rf (R x0 3)) rfl dX5_law_211 ?_
      refine x_topr ha3 ?_
      refine lv_iconst (pc := 214) (v := (ii 3)) hx hb dX5_law_214 (by decide) ?_
      refine x_iald (pc := 215) X V htj4 hij4 hjj4 dX5_law_215 ?_
      refine lv_iconst (pc := 216) (v := (ii 1)) hx hb dX5_law_216 (by decide) ?_
      refine lv_isub (pc := 217) hx hb dX5_law_217 ?_
      replace hf := b2s hf; obtain ⟨r6, I7, hk_8, hf⟩ := hf
      refine x_callV0 (pc := 218) (As := [.int ((I5 a3 j4) - (ii 1))]) (rest := []) X V (mX5_tell l D dA s0 hk_8) okX5 ht1 q1701 q1703 qs45 q129 q1704 ⟨rfl, hsX5_tell⟩ ⟨Nat.le_of_ble_eq_true rfl, Nat.le_of_ble_eq_true rfl⟩ rfl hl.1 rfl (Nat.le_of_ble_eq_true rfl) dX5_law_218 ⟨Nat.zero_le _, Nat.zero_le _⟩ (fun H locs V => W.eq (g2 := F0 m 221 ls [.int r6]) rfl ?_)
      cases hf
      exact x_iret (pc := 221) X V hr dX5_law_221
    · replace hf := if_f hf c2
      refine lv_aload_n (pc := 153) hx hb dX5_law_153 rfl (lv_at hl 0 rfl) ?_
      replace hf := bs hf; obtain ⟨a9, ha9, hf⟩ := hf
      refine x_get (pc := 154) X V okX5 ht1 3 (by decide) q1524 (v := va_rf (R x0 3)) rfl dX5_law_154 ?_
      refine x_topr ha9 ?_
      refine lv_iload_n (pc := 157) hx hb dX5_law_157 rfl (lv_at hl 1 rfl) ?_
      refine lv_bipush (pc := 158) (v := (ii 98)) hx hb dX5_law_158 (by decide) ?_
      refine lv_iadd (pc := 160) hx hb dX5_law_160 ?_
      refine lv_iconst (pc := 161) (v := (ii 2)) hx hb dX5_law_161 (by decide) ?_
      refine lv_iload_n (pc := 162) hx hb dX5_law_162 rfl (lv_at hl 2 rfl) ?_
      refine lv_imul (pc := 163) hx hb dX5_law_163 ?_
      refine lv_iadd (pc := 164) hx hb dX5_law_164 ?_
      refine lv_aload_n (pc := 165) hx hb dX5_law_165 rfl (lv_at hl 0 rfl) ?_
      replace hf := bs hf; obtain ⟨a10, ha10, hf⟩ := hf
      refine x_get (pc := 166) X V okX5 ht1 24 (by decide) q1545 (v := va_rf (R x0 24)) rfl dX5_law_166 ?_
      refine x_topr ha10 ?_
      refine lv_iload_n (pc := 169) hx hb dX5_law_169 rfl (lv_at hl 2 rfl) ?_
      replace hf := rA_s hf; obtain ⟨j11, hjj11, htj11, hij11, hf⟩ := hf
      refine x_iald (pc := 170) X V htj11 hij11 hjj11 dX5_law_170 ?_
      replace hf := rA_s hf; obtain ⟨j12, hjj12, htj12, hij12, hf⟩ := hf
      replace hf := nm_s hf; obtain ⟨I13, hI13, hf⟩ := hf
      refine x_iast (pc := 171) X V htj12 hij12 hjj12 hI13 dX5_law_171 (fun H locs V => ?_)
      refine lv_aload_n (pc := 172) hx hb dX5_law_172 rfl (lv_at hl 0 rfl) ?_
      refine x_get (pc := 173) X V okX5 ht1 3 (by decide) q1524 (v := va_rf (R x0 3)) rfl dX5_law_173 ?_
      refine x_topr ha9 ?_
      refine lv_iload_n (pc := 176) hx hb dX5_law_176 rfl (lv_at hl 1 rfl) ?_
      refine lv_bipush (pc := 177) (v := (ii 98)) hx hb dX5_law_177 (by decide) ?_
      refine lv_iadd (pc := 179) hx hb dX5_law_179 ?_
      refine lv_iconst (pc := 180) (v := (ii 2)) hx hb dX5_law_180 (by decide) ?_
      refine lv_iload_n (pc := 181) hx hb dX5_law_181 rfl (lv_at hl 2 rfl) ?_
      refine lv_imul (pc := 182) hx hb dX5_law_182 ?_
      refine lv_iadd (pc := 183) hx hb dX5_law_183 ?_
      refine lv_iconst (pc := 184) (v := (ii 1)) hx hb dX5_law_184 (by decide) ?_
      refine lv_iadd (pc := 185) hx hb dX5_law_185 ?_
      refine lv_aload_n (pc := 186) hx hb dX5_law_186 rfl (lv_at hl 0 rfl) ?_
      replace hf := bs hf; obtain ⟨a14, ha14, hf⟩ := hf
      refine x_get (pc := 187) X V okX5 ht1 25 (by decide) q1546 (v := va_rf (R x0 25)) rfl dX5_law_187 ?_
      refine x_topr ha14 ?_
      refine lv_iload_n (pc := 190) hx hb dX5_law_190 rfl (lv_at hl 2 rfl) ?_
      replace hf := rA_s hf; obtain ⟨j15, hjj15, htj15, hij15, hf⟩ := hf
      refine x_iald (pc := 191) X V htj15 hij15 hjj15 dX5_law_191 ?_
      replace hf := rA_s hf; obtain ⟨j16, hjj16, htj16, hij16, hf⟩ := hf
      replace hf := nm_s hf; obtain ⟨I17, hI17, hf⟩ := hf
      refine x_iast (pc := 192) X V htj16 hij16 hjj16 hI17 dX5_law_192 (fun H locs V => ?_)
      replace hf := nm_s hf; obtain ⟨u18, hu18, hf⟩ := hf
      refine lv_iinc (pc := 193) (v := u18) (lv' := [(2, .int u18), (0, .ref x0), (1, .int x1)]) hx hb dX5_law_193 hl (k := 2) rfl (by rw [hu18]; rfl) (by decide) rfl (fun ls hl => ?_)
      refine lv_goto (pc := 196) (tgt := 145) hx hb dX5_law_196 (by decide) ?_
      exact ih hf V (lv_sub hl [1, 2, 0] rfl)
set_option maxHeartbeats 400000 in
set_option maxRecDepth 100000 in
theorem wX5_law_b110 {nf : Nat} {p : Program} {l : Launch} {e : Env} {s : State} {m : MethodId} {args : Array Value} {below : List Frame} {meth : Method} {c : Code} {D : va_G} {dA : Nat → ClassId} {s0 : Nat} {T : xT} {N : xT} {Z : Nat} {R : xR}  {ro : Int32} {Io : xI} {Lo : xL} (X : Cx D dA s0 p m c cX5_law 3 s args RX5 meth) (hr : meth.sig.returnType = (some .int))   (k : Nat) : ∀ {I : xI} {L : xL} {x0 : Nat} {x1 : Int32} {x2 : Int32} {H : Heap} {locs : List Loc} {ls : Array Slot} , fX5_law_b110 nf T N R k I L x0 x1 x2 = some (ro, Io, Lo) → Iv D dA s0 s T N Z I L R H locs → lv_has ls 3 [(0, .ref x0), (1, .int x1), (2, .int x2)] → W p l e { frames := 8, cells := 0, slots := 0, locals := 174 } s m args below meth c H locs 0 0 (MQ below (xQ D dA s0 (some (.int ro)) T N Z Io Lo R) args s 0 0 (fun q => s0 ≤ q)) (F0 m 110 ls []) := by
  have hx := X.1.1
  have hb := X.1.2.1
  induction k with
  | zero =>
    intro I L x0 x1 x2 H locs ls hf V hl
    exact absurd (show none = some _ from hf) (fun q => nomatch q)
  | succ k ih =>
    intro I L x0 x1 x2 H locs ls hf V hl
    rw [fX5_law_b110] at hf
    refine lv_iload_n (pc := 110) hx hb dX5_law_110 rfl (lv_at hl 2 rfl) ?_
    refine lv_bipush (pc := 111) (v := (ii 8)) hx hb dX5_law_111 (by decide) ?_
    refine lv_aload_n (pc := 113) hx hb dX5_law_113 rfl (lv_at hl 0 rfl) ?_
    replace hf := tg_s hf; obtain ⟨ht1, hf⟩ := hf
    refine x_get (pc := 114) X V okX5 ht1 21 (by decide) q1542 (v := .int (I x0 21)) rfl dX5_law_114 ?_
    refine lv_imul (pc := 117) hx hb dX5_law_117 ?_
    refine lv_icmp_ge (pc := 118) (tgt := 143) hx hb dX5_law_118 (by decide) (fun c2 => ?_) (fun c2 => ?_)
    · replace hf := if_t hf c2
      refine lv_iconst (pc := 143) (v := (ii 0)) hx hb dX5_law_143 (by decide) ?_
      refine lv_istore_n (pc := 144) (lv' := [(2, .int (ii 0)), (0, .ref x0), (1, .int x1)]) hx hb dX5_law_144 rfl hl (by decide) rfl (fun ls hl => ?_)
      exact wX5_law_b145 X hr nf hf V (lv_sub hl [1, 2, 0] rfl)
    · replace hf := if_f hf c2
      refine lv_aload_n (pc := 121) hx hb dX5_law_121 rfl (lv_at hl 0 rfl) ?_
      replace hf := bs hf; obtain ⟨a3, ha3, hf⟩ := hf
      refine x_get (pc := 122) X V okX5 ht1 3 (by decide) q1524 (v := va_rf (R x0 3)) rfl dX5_law_122 ?_
      refine x_topr ha3 ?_
      refine lv_iload_n (pc := 125) hx hb dX5_law_125 rfl (lv_at hl 1 rfl) ?_
      refine lv_iconst (pc := 126) (v := (ii 2)) hx hb dX5_law_126 (by decide) ?_
      refine lv_iadd (pc := 127) hx hb dX5_law_127 ?_
      refine lv_iload_n (pc := 128) hx hb dX5_law_128 rfl (lv_at hl 2 rfl) ?_
      refine lv_iadd (pc := 129) hx hb dX5_law_129 ?_
      refine lv_aload_n (pc := 130) hx hb dX5_law_130 rfl (lv_at hl 0 rfl) ?_
      replace hf := bs hf; obtain ⟨a4, ha4, hf⟩ := hf
      refine x_get (pc := 131) X V okX5 ht1 22 (by decide) q1543 (v := va_rf (R x0 22)) rfl dX5_law_131 ?_
      refine x_topr ha4 ?_
      refine lv_iload_n (pc := 134) hx hb dX5_law_134 rfl (lv_at hl 2 rfl) ?_
      replace hf := rA_s hf; obtain ⟨j5, hjj5, htj5, hij5, hf⟩ := hf
      refine x_iald (pc := 135) X V htj5 hij5 hjj5 dX5_law_135 ?_
      replace hf := rA_s hf; obtain ⟨j6, hjj6, htj6, hij6, hf⟩ := hf
      replace hf := nm_s hf; obtain ⟨I7, hI7, hf⟩ := hf
      refine x_iast (pc := 136) X V htj6 hij6 hjj6 hI7 dX5_law_136 (fun H locs V => ?_)
      replace hf := nm_s hf; obtain ⟨u8, hu8, hf⟩ := hf
      refine lv_iinc (pc := 137) (v := u8) (lv' := [(2, .int u8), (0, .ref x0), (1, .int x1)]) hx hb dX5_law_137 hl (k := 2) rfl (by rw [hu8]; rfl) (by decide) rfl (fun ls hl => ?_)
      refine lv_goto (pc := 140) (tgt := 110) hx hb dX5_law_140 (by decide) ?_
      exact ih hf V (lv_sub hl [1, 2, 0] rfl)
set_option maxHeartbeats 400000 in
set_option maxRecDepth 100000 in
theorem wX5_law_b64 {nf : Nat} {p : Program} {l : Launch} {e : Env} {s : State} {m : MethodId} {args : Array Value} {below : List Frame} {meth : Method} {c : Code} {D : va_G} {dA : Nat → ClassId} {s0 : Nat} {T : xT} {N : xT} {Z : Nat} {I : xI} {L : xL} {R : xR} {H : Heap} {locs : List Loc} {ls : Array Slot}  {x0 : Nat} {ro : Int32} {Io : xI} {Lo : xL} (X : Cx D dA s0 p m c cX5_law 3 s args RX5 meth) (hr : meth.sig.returnType = (some .int))   (hf : fX5_law_b64 nf T N I L R x0 = some (ro, Io, Lo)) (V : Iv D dA s0 s T N Z I L R H locs) (hl : lv_has ls 3 [(0, .ref x0)]) : W p l e { frames := 8, cells := 0, slots := 0, locals := 174 } s m args below meth c H locs 0 0 (MQ below (xQ D dA s0 (some (.int ro)) T N Z Io Lo R) args s 0 0 (fun q => s0 ≤ q)) (F0 m 64 ls []) := by
  have hx := X.1.1
  have hb := X.1.2.1
  unfold fX5_law_b64 at hf
  refine lv_aload_n (pc := 64) hx hb dX5_law_64 rfl (lv_at hl 0 rfl) ?_
  replace hf := tg_s hf; obtain ⟨ht4, hf⟩ := hf
  replace hf := b2s hf; obtain ⟨I1, L2, hk_3, hf⟩ := hf
  refine x_callV0 (pc := 65) (As := []) (rest := []) X V (mX5_endText l D dA s0 hk_3) okX5 ht4 q1957 q1959 qs85 q129 q1960 ⟨rfl, hsX5_endText⟩ ⟨Nat.le_of_ble_eq_true rfl, Nat.le_of_ble_eq_true rfl⟩ rfl hl.1 rfl (Nat.le_of_ble_eq_true rfl) dX5_law_65 ⟨Nat.zero_le _, Nat.zero_le _⟩ (fun H locs V => W.eq (g2 := F0 m 68 ls []) rfl ?_)
  refine lv_aload_n (pc := 68) hx hb dX5_law_68 rfl (lv_at hl 0 rfl) ?_
  refine x_get (pc := 69) X V okX5 ht4 19 (by decide) q1540 (v := .int (I1 x0 19)) rfl dX5_law_69 ?_
  refine lv_if_eq (pc := 72) (tgt := 82) hx hb dX5_law_72 (by decide) (fun c5 => ?_) (fun c5 => ?_)
  · replace hf := if_t hf c5
    refine lv_bipush (pc := 82) (v := (ii 76)) hx hb dX5_law_82 (by decide) ?_
    refine lv_sipush (pc := 84) (v := (ii 900)) hx hb dX5_law_84 (by decide) ?_
    refine lv_aload_n (pc := 87) hx hb dX5_law_87 rfl (lv_at hl 0 rfl) ?_
    replace hf := bs hf; obtain ⟨a6, ha6, hf⟩ := hf
    refine x_get (pc := 88) X V okX5 ht4 3 (by decide) q1524 (v := va_rf (R x0 3)) rfl dX5_law_88 ?_
    refine x_topr ha6 ?_
    refine lv_iconst (pc := 91) (v := (ii 3)) hx hb dX5_law_91 (by decide) ?_
    replace hf := rA_s hf; obtain ⟨j7, hjj7, htj7, hij7, hf⟩ := hf
    refine x_iald (pc := 92) X V htj7 hij7 hjj7 dX5_law_92 ?_
    refine lv_imul (pc := 93) hx hb dX5_law_93 ?_
    refine lv_iadd (pc := 94) hx hb dX5_law_94 ?_
    replace hf := nm_s hf; obtain ⟨u8, hu8, hf⟩ := hf
    refine x_topi hu8 ?_
    refine lv_istore_n (pc := 95) (lv' := [(1, .int u8), (0, .ref x0)]) hx hb dX5_law_95 rfl hl (by decide) rfl (fun ls hl => ?_)
    refine lv_aload_n (pc := 96) hx hb dX5_law_96 rfl (lv_at hl 1 rfl) ?_
    refine x_get (pc := 97) X V okX5 ht4 3 (by decide) q1524 (v := va_rf (R x0 3)) rfl dX5_law_97 ?_
    refine x_topr ha6 ?_
    refine lv_iload_n (pc := 100) hx hb dX5_law_100 rfl (lv_at hl 0 rfl) ?_
    refine lv_iconst (pc := 101) (v := (ii 1)) hx hb dX5_law_101 (by decide) ?_
    refine lv_iadd (pc := 102) hx hb dX5_law_102 ?_
    refine lv_aload_n (pc := 103) hx hb dX5_law_103 rfl (lv_at hl 1 rfl) ?_
    refine x_get (pc := 104) X V okX5 ht4 21 (by decide) q1542 (v := .int (I1 x0 21)) rfl dX5_law_104 ?_
    replace hf := rA_s hf; obtain ⟨j9, hjj9, htj9, hij9, hf⟩ := hf
    replace hf := nm_s hf; obtain ⟨I10, hI10, hf⟩ := hf
    refine x_iast (pc := 107) X V htj9 hij9 hjj9 hI10 dX5_law_107 (fun H locs V => ?_)
    refine lv_iconst (pc := 108) (v := (ii 0)) hx hb dX5_law_108 (by decide) ?_
    refine lv_istore_n (pc := 109) (lv' := [(2, .int (ii 0)), (1, .int u8), (0, .ref x0)]) hx hb dX5_law_109 rfl hl (by decide) rfl (fun ls hl => ?_)
    exact wX5_law_b110 X hr nf hf V (lv_sub hl [2, 1, 0] rfl)
  · replace hf := if_f hf c5
    refine lv_aload_n (pc := 75) hx hb dX5_law_75 rfl (lv_at hl 0 rfl) ?_
    refine lv_bipush (pc := 76) (v := (-6 : Int32)) hx hb dX5_law_76 (by decide) ?_
    replace hf := b2s hf; obtain ⟨r11, I12, hk_13, hf⟩ := hf
    refine x_callV0 (pc := 78) (As := [.int (-6 : Int32)]) (rest := []) X V (mX5_tell l D dA s0 hk_13) okX5 ht4 q1701 q1703 qs45 q129 q1704 ⟨rfl, hsX5_tell⟩ ⟨Nat.le_of_ble_eq_true rfl, Nat.le_of_ble_eq_true rfl⟩ rfl hl.1 rfl (Nat.le_of_ble_eq_true rfl) dX5_law_78 ⟨Nat.zero_le _, Nat.zero_le _⟩ (fun H locs V => W.eq (g2 := F0 m 81 ls [.int r11]) rfl ?_)
    cases hf
    exact x_iret (pc := 81) X V hr dX5_law_81
set_option maxHeartbeats 400000 in
set_option maxRecDepth 100000 in
theorem wX5_law_b37 {nf : Nat} {p : Program} {l : Launch} {e : Env} {s : State} {m : MethodId} {args : Array Value} {below : List Frame} {meth : Method} {c : Code} {D : va_G} {dA : Nat → ClassId} {s0 : Nat} {T : xT} {N : xT} {Z : Nat} {R : xR}  {ro : Int32} {Io : xI} {Lo : xL} (X : Cx D dA s0 p m c cX5_law 3 s args RX5 meth) (hr : meth.sig.returnType = (some .int))   (k : Nat) : ∀ {I : xI} {L : xL} {x0 : Nat} {H : Heap} {locs : List Loc} {ls : Array Slot} , fX5_law_b37 nf T N R k I L x0 = some (ro, Io, Lo) → Iv D dA s0 s T N Z I L R H locs → lv_has ls 3 [(0, .ref x0)] → W p l e { frames := 8, cells := 0, slots := 0, locals := 174 } s m args below meth c H locs 0 0 (MQ below (xQ D dA s0 (some (.int ro)) T N Z Io Lo R) args s 0 0 (fun q => s0 ≤ q)) (F0 m 37 ls []) := by
  have hx := X.1.1
  have hb := X.1.2.1
  induction k with
  | zero =>
    intro I L x0 H locs ls hf V hl
    exact absurd (show none = some _ from hf) (fun q => nomatch q)
  | succ k ih =>
    intro I L x0 H locs ls hf V hl
    rw [fX5_law_b37] at hf
    refine lv_aload_n (pc := 37) hx hb dX5_law_37 rfl (lv_at hl 0 rfl) ?_
    replace hf := tg_s hf; obtain ⟨ht1, hf⟩ := hf
    refine x_get (pc := 38) X V okX5 ht1 19 (by decide) q1540 (v := .int (I x0 19)) rfl dX5_law_38 ?_
    refine lv_if_ne (pc := 41) (tgt := 64) hx hb dX5_law_41 (by decide) (fun c2 => ?_) (fun c2 => ?_)
    · replace hf := if_f hf c2
      exact wX5_law_b64 X hr hf V (lv_sub hl [0] rfl)
    · replace hf := if_t hf c2
      refine lv_aload_n (pc := 44) hx hb dX5_law_44 rfl (lv_at hl 0 rfl) ?_
      refine lv_bipush (pc := 45) (v := (ii 59)) hx hb dX5_law_45 (by decide) ?_
      replace hf := bs hf; obtain ⟨r3, hk_4, hf⟩ := hf
      refine x_callV0 (pc := 47) (As := [.int (ii 59)]) (rest := []) X V (mX5_isSign l D dA s0 hk_4) okX5 ht1 q1893 q1895 qs72 q129 q1896 ⟨rfl, hsX5_isSign⟩ ⟨Nat.le_of_ble_eq_true rfl, Nat.le_of_ble_eq_true rfl⟩ rfl hl.1 rfl (Nat.le_of_ble_eq_true rfl) dX5_law_47 ⟨Nat.zero_le _, Nat.zero_le _⟩ (fun H locs V => W.eq (g2 := F0 m 50 ls [.int r3]) rfl ?_)
      refine lv_if_eq (pc := 50) (tgt := 64) hx hb dX5_law_50 (by decide) (fun c5 => ?_) (fun c5 => ?_)
      · replace hf := if_t hf c5
        exact wX5_law_b64 X hr hf V (lv_sub hl [0] rfl)
      · replace hf := if_f hf c5
        refine lv_aload_n (pc := 53) hx hb dX5_law_53 rfl (lv_at hl 0 rfl) ?_
        replace hf := b2s hf; obtain ⟨I6, L7, hk_8, hf⟩ := hf
        refine x_callV0 (pc := 54) (As := []) (rest := []) X V (mX5_next l D dA s0 hk_8) okX5 ht1 q1854 q1856 qs65 q129 q1857 ⟨rfl, hsX5_next⟩ ⟨Nat.le_of_ble_eq_true rfl, Nat.le_of_ble_eq_true rfl⟩ rfl hl.1 rfl (Nat.le_of_ble_eq_true rfl) dX5_law_54 ⟨Nat.zero_le _, Nat.zero_le _⟩ (fun H locs V => W.eq (g2 := F0 m 57 ls []) rfl ?_)
        refine lv_aload_n (pc := 57) hx hb dX5_law_57 rfl (lv_at hl 0 rfl) ?_
        replace hf := b2s hf; obtain ⟨I9, L10, hk_11, hf⟩ := hf
        refine x_callV0 (pc := 58) (As := []) (rest := []) X V (mX5_readLaw l D dA s0 hk_11) okX5 ht1 q1868 q1870 qs66 q129 q1871 ⟨rfl, hsX5_readLaw⟩ ⟨Nat.le_of_ble_eq_true rfl, Nat.le_of_ble_eq_true rfl⟩ rfl hl.1 rfl (Nat.le_of_ble_eq_true rfl) dX5_law_58 ⟨Nat.zero_le _, Nat.zero_le _⟩ (fun H locs V => W.eq (g2 := F0 m 61 ls []) rfl ?_)
        refine lv_goto (pc := 61) (tgt := 37) hx hb dX5_law_61 (by decide) ?_
        exact ih hf V (lv_sub hl [0] rfl)
set_option maxHeartbeats 400000 in
set_option maxRecDepth 100000 in
theorem wX5_law_e {nf : Nat} {p : Program} {l : Launch} {e : Env} {s : State} {m : MethodId} {args : Array Value} {below : List Frame} {meth : Method} {c : Code} {D : va_G} {dA : Nat → ClassId} {s0 : Nat} {T : xT} {N : xT} {Z : Nat} {I : xI} {L : xL} {R : xR} {H : Heap} {locs : List Loc} {ls : Array Slot} {x0 : Nat} {ro : Int32} {Io : xI} {Lo : xL} (X : Cx D dA s0 p m c cX5_law 3 s args RX5 meth) (hr : meth.sig.returnType = (some .int)) (hf : fX5_law nf T N I L R x0 = some (ro, Io, Lo)) (V : Iv D dA s0 s T N Z I L R H locs) (hl : lv_has ls 3 [(0, .ref x0)]) : W p l e { frames := 8, cells := 0, slots := 0, locals := 174 } s m args below meth c H locs 0 0 (MQ below (xQ D dA s0 (some (.int ro)) T N Z Io Lo R) args s 0 0 (fun q => s0 ≤ q)) (F0 m 0 ls []) := by
  have hx := X.1.1
  have hb := X.1.2.1
  unfold fX5_law at hf
  refine lv_aload_n (pc := 0) hx hb dX5_law_0 rfl (lv_at hl 0 rfl) ?_
  refine lv_iconst (pc := 1) (v := (ii 0)) hx hb dX5_law_1 (by decide) ?_
  replace hf := tg_s hf; obtain ⟨ht1, hf⟩ := hf
  replace hf := nm_s hf; obtain ⟨I2, hI2, hf⟩ := hf
  refine x_puti (pc := 2) X V okX5 (by decide) ht1 0 (by decide) q1521 (Or.inl rfl) hI2 (fun _ _ _ => rfl) rfl rfl dX5_law_2 (fun H locs V => ?_)
  refine lv_aload_n (pc := 5) hx hb dX5_law_5 rfl (lv_at hl 0 rfl) ?_
  replace hf := bs hf; obtain ⟨a3, ha3, hf⟩ := hf
  refine x_get (pc := 6) X V okX5 ht1 3 (by decide) q1524 (v := va_rf (R x0 3)) rfl dX5_law_6 ?_
  refine x_topr ha3 ?_
  refine lv_iconst (pc := 9) (v := (ii 3)) hx hb dX5_law_9 (by decide) ?_
  replace hf := rA_s hf; obtain ⟨j4, hjj4, htj4, hij4, hf⟩ := hf
  refine x_iald (pc := 10) X V htj4 hij4 hjj4 dX5_law_10 ?_
  refine lv_bipush (pc := 11) (v := (ii 6)) hx hb dX5_law_11 (by decide) ?_
  refine lv_icmp_ne (pc := 13) (tgt := 28) hx hb dX5_law_13 (by decide) (fun c5 => ?_) (fun c5 => ?_)
  · replace hf := if_f hf c5
    refine lv_aload_n (pc := 28) hx hb dX5_law_28 rfl (lv_at hl 0 rfl) ?_
    refine lv_iconst (pc := 29) (v := (ii 0)) hx hb dX5_law_29 (by decide) ?_
    replace hf := b2s hf; obtain ⟨I6, L7, hk_8, hf⟩ := hf
    refine x_callV0 (pc := 30) (As := [.int (ii 0)]) (rest := []) X V (mX5_beginText l D dA s0 hk_8) okX5 ht1 q1846 q1848 qs63 q129 q1849 ⟨rfl, hsX5_beginText⟩ ⟨Nat.le_of_ble_eq_true rfl, Nat.le_of_ble_eq_true rfl⟩ rfl hl.1 rfl (Nat.le_of_ble_eq_true rfl) dX5_law_30 ⟨Nat.zero_le _, Nat.zero_le _⟩ (fun H locs V => W.eq (g2 := F0 m 33 ls []) rfl ?_)
    refine lv_aload_n (pc := 33) hx hb dX5_law_33 rfl (lv_at hl 0 rfl) ?_
    replace hf := b2s hf; obtain ⟨I9, L10, hk_11, hf⟩ := hf
    refine x_callV0 (pc := 34) (As := []) (rest := []) X V (mX5_readLaw l D dA s0 hk_11) okX5 ht1 q1868 q1870 qs66 q129 q1871 ⟨rfl, hsX5_readLaw⟩ ⟨Nat.le_of_ble_eq_true rfl, Nat.le_of_ble_eq_true rfl⟩ rfl hl.1 rfl (Nat.le_of_ble_eq_true rfl) dX5_law_34 ⟨Nat.zero_le _, Nat.zero_le _⟩ (fun H locs V => W.eq (g2 := F0 m 37 ls []) rfl ?_)
    exact wX5_law_b37 X hr nf hf V (lv_sub hl [0] rfl)
  · replace hf := if_t hf c5
    refine lv_aload_n (pc := 16) hx hb dX5_law_16 rfl (lv_at hl 0 rfl) ?_
    refine lv_iconst (pc := 17) (v := (ii 0)) hx hb dX5_law_17 (by decide) ?_
    replace hf := nm_s hf; obtain ⟨I12, hI12, hf⟩ := hf
    refine x_puti (pc := 18) X V okX5 (by decide) ht1 13 (by decide) q1534 (Or.inl rfl) hI12 (fun _ _ _ => rfl) rfl rfl dX5_law_18 (fun H locs V => ?_)
    refine lv_aload_n (pc := 21) hx hb dX5_law_21 rfl (lv_at hl 0 rfl) ?_
    refine lv_bipush (pc := 22) (v := (-5 : Int32)) hx hb dX5_law_22 (by decide) ?_
    replace hf := b2s hf; obtain ⟨r13, I14, hk_15, hf⟩ := hf
    refine x_callV0 (pc := 24) (As := [.int (-5 : Int32)]) (rest := []) X V (mX5_tell l D dA s0 hk_15) okX5 ht1 q1701 q1703 qs45 q129 q1704 ⟨rfl, hsX5_tell⟩ ⟨Nat.le_of_ble_eq_true rfl, Nat.le_of_ble_eq_true rfl⟩ rfl hl.1 rfl (Nat.le_of_ble_eq_true rfl) dX5_law_24 ⟨Nat.zero_le _, Nat.zero_le _⟩ (fun H locs V => W.eq (g2 := F0 m 27 ls [.int r13]) rfl ?_)
    cases hf
    exact x_iret (pc := 27) X V hr dX5_law_27
theorem mX5_law {nf : Nat} (l : Launch) (D : va_G) (dA : Nat → ClassId) (s0 : Nat) {T : xT} {N : xT} {Z : Nat} {I : xI} {L : xL} {R : xR} {x0 : Nat} {ro : Int32} {Io : xI} {Lo : xL} (hf : fX5_law nf T N I L R x0 = some (ro, Io, Lo)) : XMet l D dA s0 yX5_law (ws_ yX5_law cX5_law 3 ((some .int))) (8) (174) [.ref x0] T N Z I L R (some (.int ro)) T N Z Io Lo R 0 0 :=
  x_start (own := RX5) rfl (by decide) (Nat.le_of_ble_eq_true rfl) (lv := [(0, .ref x0)]) rfl (fun p e s m below meth c ls X hr hini V hl => wX5_law_e X hr hf V hl)
