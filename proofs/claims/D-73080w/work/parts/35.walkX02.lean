set_option maxHeartbeats 400000 in
set_option maxRecDepth 100000 in
theorem wX0_feed_e {nf : Nat} {p : Program} {l : Launch} {e : Env} {s : State} {m : MethodId} {args : Array Value} {below : List Frame} {meth : Method} {c : Code} {D : va_G} {dA : Nat → ClassId} {s0 : Nat} {T : xT} {N : xT} {Z : Nat} {I : xI} {L : xL} {R : xR} {H : Heap} {locs : List Loc} {ls : Array Slot} {x0 : Nat} {x1 : Int32} {x2 : Int32} {x3 : Int32} {x4 : Int32} {x5 : Int32} {ro : Int32} {Io : xI} (X : Cx D dA s0 p m c cX0_feed 6 s args RX0 meth) (hr : meth.sig.returnType = (some .int)) (hf : fX0_feed nf T N I R x0 x1 x2 x3 x4 x5 = some (ro, Io)) (V : Iv D dA s0 s T N Z I L R H locs) (hl : lv_has ls 6 [(0, .ref x0), (1, .int x1), (2, .int x2), (3, .int x3), (4, .int x4), (5, .int x5)]) : W p l e { frames := 1, cells := 0, slots := 0, locals := 22 } s m args below meth c H locs 0 0 (MQ below (xQ D dA s0 (some (.int ro)) T N Z Io L R) args s 0 0 (fun q => s0 ≤ q)) (F0 m 0 ls []) := by
  have hx := X.1.1
  have hb := X.1.2.1
  unfold fX0_feed at hf
  refine lv_aload_n (pc := 0) hx hb dX0_feed_0 rfl (lv_at hl 0 rfl) ?_
  replace hf := tg_s hf; obtain ⟨ht1, hf⟩ := hf
  refine x_get (pc := 1) X V okX0 ht1 11 (by decide) q371 (v := .int (I x0 11)) rfl dX0_feed_1 ?_
  refine lv_bipush (pc := 4) (v := (ii 20)) hx hb dX0_feed_4 (by decide) ?_
  refine lv_iadd (pc := 6) hx hb dX0_feed_6 ?_
  refine lv_sipush (pc := 7) (v := (ii 400)) hx hb dX0_feed_7 (by decide) ?_
  refine lv_icmp_le (pc := 10) (tgt := 15) hx hb dX0_feed_10 (by decide) (fun c2 => ?_) (fun c2 => ?_)
  · replace hf := if_t hf c2
    refine lv_aload_n (pc := 15) hx hb dX0_feed_15 rfl (lv_at hl 0 rfl) ?_
    refine lv_iload_n (pc := 16) hx hb dX0_feed_16 rfl (lv_at hl 1 rfl) ?_
    replace hf := bs hf; obtain ⟨I3, hk_4, hf⟩ := hf
    refine x_callV0 (pc := 17) (As := [.int x1]) (rest := []) X V (mX0_four l D dA s0 hk_4) okX0 ht1 q707 q709 qs14 q119 q710 ⟨rfl, hsX0_four⟩ ⟨Nat.le_of_ble_eq_true rfl, Nat.le_of_ble_eq_true rfl⟩ rfl hl.1 rfl (Nat.le_of_ble_eq_true rfl) dX0_feed_17 ⟨Nat.zero_le _, Nat.zero_le _⟩ (fun H locs V => W.eq (g2 := F0 m 20 ls []) rfl ?_)
    refine lv_aload_n (pc := 20) hx hb dX0_feed_20 rfl (lv_at hl 0 rfl) ?_
    refine lv_iload_n (pc := 21) hx hb dX0_feed_21 rfl (lv_at hl 2 rfl) ?_
    replace hf := bs hf; obtain ⟨I5, hk_6, hf⟩ := hf
    refine x_callV0 (pc := 22) (As := [.int x2]) (rest := []) X V (mX0_four l D dA s0 hk_6) okX0 ht1 q707 q709 qs14 q119 q710 ⟨rfl, hsX0_four⟩ ⟨Nat.le_of_ble_eq_true rfl, Nat.le_of_ble_eq_true rfl⟩ rfl hl.1 rfl (Nat.le_of_ble_eq_true rfl) dX0_feed_22 ⟨Nat.zero_le _, Nat.zero_le _⟩ (fun H locs V => W.eq (g2 := F0 m 25 ls []) rfl ?_)
    refine lv_aload_n (pc := 25) hx hb dX0_feed_25 rfl (lv_at hl 0 rfl) ?_
    refine lv_iload_n (pc := 26) hx hb dX0_feed_26 rfl (lv_at hl 3 rfl) ?_
    replace hf := bs hf; obtain ⟨I7, hk_8, hf⟩ := hf
    refine x_callV0 (pc := 27) (As := [.int x3]) (rest := []) X V (mX0_four l D dA s0 hk_8) okX0 ht1 q707 q709 qs14 q119 q710 ⟨rfl, hsX0_four⟩ ⟨Nat.le_of_ble_eq_true rfl, Nat.le_of_ble_eq_true rfl⟩ rfl hl.1 rfl (Nat.le_of_ble_eq_true rfl) dX0_feed_27 ⟨Nat.zero_le _, Nat.zero_le _⟩ (fun H locs V => W.eq (g2 := F0 m 30 ls []) rfl ?_)
    refine lv_aload_n (pc := 30) hx hb dX0_feed_30 rfl (lv_at hl 0 rfl) ?_
    refine lv_iload (pc := 31) hx hb dX0_feed_31 (lv_at hl 4 rfl) ?_
    replace hf := bs hf; obtain ⟨I9, hk_10, hf⟩ := hf
    refine x_callV0 (pc := 33) (As := [.int x4]) (rest := []) X V (mX0_four l D dA s0 hk_10) okX0 ht1 q707 q709 qs14 q119 q710 ⟨rfl, hsX0_four⟩ ⟨Nat.le_of_ble_eq_true rfl, Nat.le_of_ble_eq_true rfl⟩ rfl hl.1 rfl (Nat.le_of_ble_eq_true rfl) dX0_feed_33 ⟨Nat.zero_le _, Nat.zero_le _⟩ (fun H locs V => W.eq (g2 := F0 m 36 ls []) rfl ?_)
    refine lv_aload_n (pc := 36) hx hb dX0_feed_36 rfl (lv_at hl 0 rfl) ?_
    refine lv_iload (pc := 37) hx hb dX0_feed_37 (lv_at hl 5 rfl) ?_
    replace hf := bs hf; obtain ⟨I11, hk_12, hf⟩ := hf
    refine x_callV0 (pc := 39) (As := [.int x5]) (rest := []) X V (mX0_four l D dA s0 hk_12) okX0 ht1 q707 q709 qs14 q119 q710 ⟨rfl, hsX0_four⟩ ⟨Nat.le_of_ble_eq_true rfl, Nat.le_of_ble_eq_true rfl⟩ rfl hl.1 rfl (Nat.le_of_ble_eq_true rfl) dX0_feed_39 ⟨Nat.zero_le _, Nat.zero_le _⟩ (fun H locs V => W.eq (g2 := F0 m 42 ls []) rfl ?_)
    refine lv_aload_n (pc := 42) hx hb dX0_feed_42 rfl (lv_at hl 0 rfl) ?_
    refine x_get (pc := 43) X V okX0 ht1 11 (by decide) q371 (v := .int (I11 x0 11)) rfl dX0_feed_43 ?_
    cases hf
    exact x_iret (pc := 46) X V hr dX0_feed_46
  · replace hf := if_f hf c2
    refine lv_iconst (pc := 13) (v := (-1 : Int32)) hx hb dX0_feed_13 (by decide) ?_
    cases hf
    exact x_iret (pc := 14) X V hr dX0_feed_14
theorem mX0_feed {nf : Nat} (l : Launch) (D : va_G) (dA : Nat → ClassId) (s0 : Nat) {T : xT} {N : xT} {Z : Nat} {I : xI} {L : xL} {R : xR} {x0 : Nat} {x1 : Int32} {x2 : Int32} {x3 : Int32} {x4 : Int32} {x5 : Int32} {ro : Int32} {Io : xI} (hf : fX0_feed nf T N I R x0 x1 x2 x3 x4 x5 = some (ro, Io)) : XMet l D dA s0 yX0_feed (ws_ yX0_feed cX0_feed 6 ((some .int))) (1) (22) [.ref x0, .int x1, .int x2, .int x3, .int x4, .int x5] T N Z I L R (some (.int ro)) T N Z Io L R 0 0 :=
  x_start (own := RX0) rfl (by decide) (Nat.le_of_ble_eq_true rfl) (lv := [(0, .ref x0), (1, .int x1), (2, .int x2), (3, .int x3), (4, .int x4), (5, .int x5)]) rfl (fun p e s m below meth c ls X hr hini V hl => wX0_feed_e X hr hf V hl)
set_option maxHeartbeats 400000 in
set_option maxRecDepth 100000 in
theorem wX0_end_e {p : Program} {l : Launch} {e : Env} {s : State} {m : MethodId} {args : Array Value} {below : List Frame} {meth : Method} {c : Code} {D : va_G} {dA : Nat → ClassId} {s0 : Nat} {T : xT} {N : xT} {Z : Nat} {I : xI} {L : xL} {R : xR} {H : Heap} {locs : List Loc} {ls : Array Slot} {x0 : Nat} {x1 : Int32} {ro : Int32} {Io : xI} (X : Cx D dA s0 p m c cX0_end 2 s args RX0 meth) (hr : meth.sig.returnType = (some .int)) (hf : fX0_end T I x0 x1 = some (ro, Io)) (V : Iv D dA s0 s T N Z I L R H locs) (hl : lv_has ls 2 [(0, .ref x0), (1, .int x1)]) : W p l e { frames := 0, cells := 0, slots := 0, locals := 0 } s m args below meth c H locs 0 0 (MQ below (xQ D dA s0 (some (.int ro)) T N Z Io L R) args s 0 0 (fun q => s0 ≤ q)) (F0 m 0 ls []) := by
  have hx := X.1.1
  have hb := X.1.2.1
  unfold fX0_end at hf
  refine lv_iload_n (pc := 0) hx hb dX0_end_0 rfl (lv_at hl 1 rfl) ?_
  refine lv_if_lt (pc := 1) (tgt := 12) hx hb dX0_end_1 (by decide) (fun c1 => ?_) (fun c1 => ?_)
  · replace hf := if_t hf c1
    refine lv_iconst (pc := 12) (v := (-1 : Int32)) hx hb dX0_end_12 (by decide) ?_
    cases hf
    exact x_iret (pc := 13) X V hr dX0_end_13
  · replace hf := if_f hf c1
    refine lv_iload_n (pc := 4) hx hb dX0_end_4 rfl (lv_at hl 1 rfl) ?_
    refine lv_aload_n (pc := 5) hx hb dX0_end_5 rfl (lv_at hl 0 rfl) ?_
    replace hf := tg_s hf; obtain ⟨ht2, hf⟩ := hf
    refine x_get (pc := 6) X V okX0 ht2 11 (by decide) q371 (v := .int (I x0 11)) rfl dX0_end_6 ?_
    refine lv_icmp_le (pc := 9) (tgt := 14) hx hb dX0_end_9 (by decide) (fun c3 => ?_) (fun c3 => ?_)
    · replace hf := if_t hf c3
      refine lv_aload_n (pc := 14) hx hb dX0_end_14 rfl (lv_at hl 0 rfl) ?_
      refine lv_iload_n (pc := 15) hx hb dX0_end_15 rfl (lv_at hl 1 rfl) ?_
      replace hf := nm_s hf; obtain ⟨I4, hI4, hf⟩ := hf
      refine x_puti (pc := 16) X V okX0 (by decide) ht2 11 (by decide) q371 (Or.inl rfl) hI4 (fun _ _ _ => rfl) rfl rfl dX0_end_16 (fun H locs V => ?_)
      refine lv_iload_n (pc := 19) hx hb dX0_end_19 rfl (lv_at hl 1 rfl) ?_
      cases hf
      exact x_iret (pc := 20) X V hr dX0_end_20
    · replace hf := if_f hf c3
      refine lv_iconst (pc := 12) (v := (-1 : Int32)) hx hb dX0_end_12 (by decide) ?_
      cases hf
      exact x_iret (pc := 13) X V hr dX0_end_13
theorem mX0_end (l : Launch) (D : va_G) (dA : Nat → ClassId) (s0 : Nat) {T : xT} {N : xT} {Z : Nat} {I : xI} {L : xL} {R : xR} {x0 : Nat} {x1 : Int32} {ro : Int32} {Io : xI} (hf : fX0_end T I x0 x1 = some (ro, Io)) : XMet l D dA s0 yX0_end (ws_ yX0_end cX0_end 2 ((some .int))) (0) (0) [.ref x0, .int x1] T N Z I L R (some (.int ro)) T N Z Io L R 0 0 :=
  x_start (own := RX0) rfl (by decide) (Nat.le_of_ble_eq_true rfl) (lv := [(0, .ref x0), (1, .int x1)]) rfl (fun p e s m below meth c ls X hr hini V hl => wX0_end_e X hr hf V hl)
set_option maxHeartbeats 400000 in
set_option maxRecDepth 100000 in
theorem wX0_row_b153 {nf : Nat} {p : Program} {l : Launch} {e : Env} {s : State} {m : MethodId} {args : Array Value} {below : List Frame} {meth : Method} {c : Code} {D : va_G} {dA : Nat → ClassId} {s0 : Nat} {T : xT} {N : xT} {Z : Nat} {I : xI} {L : xL} {R : xR} {H : Heap} {locs : List Loc} {ls : Array Slot} {kk40 : xI → Nat → Int32 → Int32 → Int32 → Option (Int32 × xI)} {x0 : Nat} {x1 : Int32} {x3 : Int32} {x4 : Int32} {z0 : Int32} {z1 : Int32} {ro : Int32} {Io : xI} (X : Cx D dA s0 p m c cX0_row 5 s args RX0 meth) (hr : meth.sig.returnType = (some .int)) (hk40 : ∀ {I : xI} {x0 : Nat} {x1 : Int32} {x2 : Int32} {x3 : Int32} {H : Heap} {locs : List Loc} {ls : Array Slot} , kk40 I x0 x1 x2 x3 = some (ro, Io) → Iv D dA s0 s T N Z I L R H locs → lv_has ls 5 [(0, .ref x0), (1, .int x1), (2, .int x2), (3, .int x3)] → W p l e { frames := 3, cells := 0, slots := 0, locals := 65 } s m args below meth c H locs 0 0 (MQ below (xQ D dA s0 (some (.int ro)) T N Z Io L R) args s 0 0 (fun q => s0 ≤ q)) (F0 m 40 ls []))  (hf : fX0_row_b153 nf kk40 T N I R x0 x1 x3 x4 z0 z1 = some (ro, Io)) (V : Iv D dA s0 s T N Z I L R H locs) (hl : lv_has ls 5 [(0, .ref x0), (1, .int x1), (3, .int x3), (4, .int x4)]) : W p l e { frames := 3, cells := 0, slots := 0, locals := 65 } s m args below meth c H locs 0 0 (MQ below (xQ D dA s0 (some (.int ro)) T N Z Io L R) args s 0 0 (fun q => s0 ≤ q)) (F0 m 153 ls [.int z1, .int z0]) := by
  have hx := X.1.1
  have hb := X.1.2.1
  unfold fX0_row_b153 at hf
  refine lv_iadd (pc := 153) hx hb dX0_row_153 ?_
  replace hf := nm_s hf; obtain ⟨u1, hu1, hf⟩ := hf
  refine x_topi hu1 ?_
  refine lv_istore_n (pc := 154) (lv' := [(2, .int u1), (0, .ref x0), (1, .int x1), (3, .int x3), (4, .int x4)]) hx hb dX0_row_154 rfl hl (by decide) rfl (fun ls hl => ?_)
  refine lv_aload_n (pc := 155) hx hb dX0_row_155 rfl (lv_at hl 1 rfl) ?_
  refine lv_dup (pc := 156) hx hb dX0_row_156 rfl ?_
  replace hf := tg_s hf; obtain ⟨ht2, hf⟩ := hf
  refine x_get (pc := 157) X V okX0 ht2 13 (by decide) q373 (v := .int (I x0 13)) rfl dX0_row_157 ?_
  refine lv_iload (pc := 160) hx hb dX0_row_160 (lv_at hl 4 rfl) ?_
  refine lv_if_eq (pc := 162) (tgt := 169) hx hb dX0_row_162 (by decide) (fun c3 => ?_) (fun c3 => ?_)
  · replace hf := if_t hf c3
    refine lv_iconst (pc := 169) (v := (ii 1)) hx hb dX0_row_169 (by decide) ?_
    refine lv_iadd (pc := 170) hx hb dX0_row_170 ?_
    replace hf := nm_s hf; obtain ⟨I4, hI4, hf⟩ := hf
    refine x_puti (pc := 171) X V okX0 (by decide) ht2 13 (by decide) q373 (Or.inl rfl) hI4 (fun _ _ _ => rfl) rfl rfl dX0_row_171 (fun H locs V => ?_)
    replace hf := nm_s hf; obtain ⟨u5, hu5, hf⟩ := hf
    refine lv_iinc (pc := 174) (v := u5) (lv' := [(3, .int u5), (2, .int u1), (0, .ref x0), (1, .int x1), (4, .int x4)]) hx hb dX0_row_174 hl (k := 3) rfl (by rw [hu5]; rfl) (by decide) rfl (fun ls hl => ?_)
    refine lv_goto (pc := 177) (tgt := 40) hx hb dX0_row_177 (by decide) ?_
    exact hk40 hf V (lv_sub hl [2, 3, 1, 0] rfl)
  · replace hf := if_f hf c3
    refine lv_iconst (pc := 165) (v := (ii 0)) hx hb dX0_row_165 (by decide) ?_
    refine lv_goto (pc := 166) (tgt := 170) hx hb dX0_row_166 (by decide) ?_
    refine lv_iadd (pc := 170) hx hb dX0_row_170 ?_
    replace hf := nm_s hf; obtain ⟨I6, hI6, hf⟩ := hf
    refine x_puti (pc := 171) X V okX0 (by decide) ht2 13 (by decide) q373 (Or.inl rfl) hI6 (fun _ _ _ => rfl) rfl rfl dX0_row_171 (fun H locs V => ?_)
    replace hf := nm_s hf; obtain ⟨u7, hu7, hf⟩ := hf
    refine lv_iinc (pc := 174) (v := u7) (lv' := [(3, .int u7), (2, .int u1), (0, .ref x0), (1, .int x1), (4, .int x4)]) hx hb dX0_row_174 hl (k := 3) rfl (by rw [hu7]; rfl) (by decide) rfl (fun ls hl => ?_)
    refine lv_goto (pc := 177) (tgt := 40) hx hb dX0_row_177 (by decide) ?_
    exact hk40 hf V (lv_sub hl [2, 3, 1, 0] rfl)
set_option maxHeartbeats 400000 in
set_option maxRecDepth 100000 in
theorem wX0_row_b142 {nf : Nat} {p : Program} {l : Launch} {e : Env} {s : State} {m : MethodId} {args : Array Value} {below : List Frame} {meth : Method} {c : Code} {D : va_G} {dA : Nat → ClassId} {s0 : Nat} {T : xT} {N : xT} {Z : Nat} {I : xI} {L : xL} {R : xR} {H : Heap} {locs : List Loc} {ls : Array Slot} {kk40 : xI → Nat → Int32 → Int32 → Int32 → Option (Int32 × xI)} {x0 : Nat} {x1 : Int32} {x2 : Int32} {x3 : Int32} {x4 : Int32} {ro : Int32} {Io : xI} (X : Cx D dA s0 p m c cX0_row 5 s args RX0 meth) (hr : meth.sig.returnType = (some .int)) (hk40 : ∀ {I : xI} {x0 : Nat} {x1 : Int32} {x2 : Int32} {x3 : Int32} {H : Heap} {locs : List Loc} {ls : Array Slot} , kk40 I x0 x1 x2 x3 = some (ro, Io) → Iv D dA s0 s T N Z I L R H locs → lv_has ls 5 [(0, .ref x0), (1, .int x1), (2, .int x2), (3, .int x3)] → W p l e { frames := 3, cells := 0, slots := 0, locals := 65 } s m args below meth c H locs 0 0 (MQ below (xQ D dA s0 (some (.int ro)) T N Z Io L R) args s 0 0 (fun q => s0 ≤ q)) (F0 m 40 ls []))  (hf : fX0_row_b142 nf kk40 T N I R x0 x1 x2 x3 x4 = some (ro, Io)) (V : Iv D dA s0 s T N Z I L R H locs) (hl : lv_has ls 5 [(0, .ref x0), (1, .int x1), (2, .int x2), (3, .int x3), (4, .int x4)]) : W p l e { frames := 3, cells := 0, slots := 0, locals := 65 } s m args below meth c H locs 0 0 (MQ below (xQ D dA s0 (some (.int ro)) T N Z Io L R) args s 0 0 (fun q => s0 ≤ q)) (F0 m 142 ls []) := by
  have hx := X.1.1
  have hb := X.1.2.1
  unfold fX0_row_b142 at hf
  refine lv_iload_n (pc := 142) hx hb dX0_row_142 rfl (lv_at hl 2 rfl) ?_
  refine lv_iload (pc := 143) hx hb dX0_row_143 (lv_at hl 4 rfl) ?_
  refine lv_if_eq (pc := 145) (tgt := 152) hx hb dX0_row_145 (by decide) (fun c1 => ?_) (fun c1 => ?_)
  · replace hf := if_t hf c1
    refine lv_iconst (pc := 152) (v := (ii 0)) hx hb dX0_row_152 (by decide) ?_
    exact wX0_row_b153 X hr hk40 hf V (lv_sub hl [0, 1, 3, 4] rfl)
  · replace hf := if_f hf c1
    refine lv_iconst (pc := 148) (v := (ii 1)) hx hb dX0_row_148 (by decide) ?_
    refine lv_goto (pc := 149) (tgt := 153) hx hb dX0_row_149 (by decide) ?_
    exact wX0_row_b153 X hr hk40 hf V (lv_sub hl [0, 1, 3, 4] rfl)
set_option maxHeartbeats 400000 in
set_option maxRecDepth 100000 in
theorem wX0_row_b100 {nf : Nat} {p : Program} {l : Launch} {e : Env} {s : State} {m : MethodId} {args : Array Value} {below : List Frame} {meth : Method} {c : Code} {D : va_G} {dA : Nat → ClassId} {s0 : Nat} {T : xT} {N : xT} {Z : Nat} {I : xI} {L : xL} {R : xR} {H : Heap} {locs : List Loc} {ls : Array Slot} {kk40 : xI → Nat → Int32 → Int32 → Int32 → Option (Int32 × xI)} {x0 : Nat} {x1 : Int32} {x2 : Int32} {x3 : Int32} {z0 : Int32} {ro : Int32} {Io : xI} (X : Cx D dA s0 p m c cX0_row 5 s args RX0 meth) (hr : meth.sig.returnType = (some .int)) (hk40 : ∀ {I : xI} {x0 : Nat} {x1 : Int32} {x2 : Int32} {x3 : Int32} {H : Heap} {locs : List Loc} {ls : Array Slot} , kk40 I x0 x1 x2 x3 = some (ro, Io) → Iv D dA s0 s T N Z I L R H locs → lv_has ls 5 [(0, .ref x0), (1, .int x1), (2, .int x2), (3, .int x3)] → W p l e { frames := 3, cells := 0, slots := 0, locals := 65 } s m args below meth c H locs 0 0 (MQ below (xQ D dA s0 (some (.int ro)) T N Z Io L R) args s 0 0 (fun q => s0 ≤ q)) (F0 m 40 ls []))  (hf : fX0_row_b100 nf kk40 T N I R x0 x1 x2 x3 z0 = some (ro, Io)) (V : Iv D dA s0 s T N Z I L R H locs) (hl : lv_has ls 5 [(0, .ref x0), (1, .int x1), (2, .int x2), (3, .int x3)]) : W p l e { frames := 3, cells := 0, slots := 0, locals := 65 } s m args below meth c H locs 0 0 (MQ below (xQ D dA s0 (some (.int ro)) T N Z Io L R) args s 0 0 (fun q => s0 ≤ q)) (F0 m 100 ls [.int z0]) := by
  have hx := X.1.1
  have hb := X.1.2.1
  unfold fX0_row_b100 at hf
  refine lv_istore (pc := 100) (lv' := [(4, .int z0), (0, .ref x0), (1, .int x1), (2, .int x2), (3, .int x3)]) hx hb dX0_row_100 hl (by decide) rfl (fun ls hl => ?_)
  refine lv_iload (pc := 102) hx hb dX0_row_102 (lv_at hl 0 rfl) ?_
  refine lv_if_eq (pc := 104) (tgt := 142) hx hb dX0_row_104 (by decide) (fun c1 => ?_) (fun c1 => ?_)
  · replace hf := if_t hf c1
    exact wX0_row_b142 X hr hk40 hf V (lv_sub hl [1, 2, 3, 4, 0] rfl)
  · replace hf := if_f hf c1
    refine lv_aload_n (pc := 107) hx hb dX0_row_107 rfl (lv_at hl 1 rfl) ?_
    refine lv_aload_n (pc := 108) hx hb dX0_row_108 rfl (lv_at hl 1 rfl) ?_
    replace hf := tg_s hf; obtain ⟨ht2, hf⟩ := hf
    replace hf := bs hf; obtain ⟨a3, ha3, hf⟩ := hf
    refine x_get (pc := 109) X V okX0 ht2 10 (by decide) q370 (v := va_rf (R x0 10)) rfl dX0_row_109 ?_
    refine x_topr ha3 ?_
    refine lv_iload_n (pc := 112) hx hb dX0_row_112 rfl (lv_at hl 4 rfl) ?_
    replace hf := rA_s hf; obtain ⟨j4, hjj4, htj4, hij4, hf⟩ := hf
    refine x_bald (pc := 113) X V htj4 hij4 hjj4 dX0_row_113 ?_
    refine lv_aload_n (pc := 114) hx hb dX0_row_114 rfl (lv_at hl 1 rfl) ?_
    refine x_get (pc := 115) X V okX0 ht2 10 (by decide) q370 (v := va_rf (R x0 10)) rfl dX0_row_115 ?_
    refine x_topr ha3 ?_
    refine lv_iload_n (pc := 118) hx hb dX0_row_118 rfl (lv_at hl 4 rfl) ?_
    refine lv_iconst (pc := 119) (v := (ii 1)) hx hb dX0_row_119 (by decide) ?_
    refine lv_iadd (pc := 120) hx hb dX0_row_120 ?_
    replace hf := rA_s hf; obtain ⟨j5, hjj5, htj5, hij5, hf⟩ := hf
    refine x_bald (pc := 121) X V htj5 hij5 hjj5 dX0_row_121 ?_
    refine lv_aload_n (pc := 122) hx hb dX0_row_122 rfl (lv_at hl 1 rfl) ?_
    refine x_get (pc := 123) X V okX0 ht2 10 (by decide) q370 (v := va_rf (R x0 10)) rfl dX0_row_123 ?_
    refine x_topr ha3 ?_
    refine lv_iload_n (pc := 126) hx hb dX0_row_126 rfl (lv_at hl 4 rfl) ?_
    refine lv_iconst (pc := 127) (v := (ii 2)) hx hb dX0_row_127 (by decide) ?_
    refine lv_iadd (pc := 128) hx hb dX0_row_128 ?_
    replace hf := rA_s hf; obtain ⟨j6, hjj6, htj6, hij6, hf⟩ := hf
    refine x_bald (pc := 129) X V htj6 hij6 hjj6 dX0_row_129 ?_
    refine lv_aload_n (pc := 130) hx hb dX0_row_130 rfl (lv_at hl 1 rfl) ?_
    refine x_get (pc := 131) X V okX0 ht2 10 (by decide) q370 (v := va_rf (R x0 10)) rfl dX0_row_131 ?_
    refine x_topr ha3 ?_
    refine lv_iload_n (pc := 134) hx hb dX0_row_134 rfl (lv_at hl 4 rfl) ?_
    refine lv_iconst (pc := 135) (v := (ii 3)) hx hb dX0_row_135 (by decide) ?_
    refine lv_iadd (pc := 136) hx hb dX0_row_136 ?_
    replace hf := rA_s hf; obtain ⟨j7, hjj7, htj7, hij7, hf⟩ := hf
    refine x_bald (pc := 137) X V htj7 hij7 hjj7 dX0_row_137 ?_
    replace hf := b2s hf; obtain ⟨r8, I9, hk_10, hf⟩ := hf
    refine x_callV0 (pc := 138) (As := [.int (I a3 j4), .int (I a3 j5), .int (I a3 j6), .int (I a3 j7)]) (rest := []) X V (mX0_adds l D dA s0 hk_10) okX0 ht2 q564 q566 qs5 q119 q567 ⟨rfl, hsX0_adds⟩ ⟨Nat.le_of_ble_eq_true rfl, Nat.le_of_ble_eq_true rfl⟩ rfl hl.1 rfl (Nat.le_of_ble_eq_true rfl) dX0_row_138 ⟨Nat.zero_le _, Nat.zero_le _⟩ (fun H locs V => W.eq (g2 := F0 m 141 ls [.int r8]) rfl ?_)
    refine lv_pop (pc := 141) hx hb dX0_row_141 rfl ?_
    exact wX0_row_b142 X hr hk40 hf V (lv_sub hl [1, 2, 3, 4, 0] rfl)
set_option maxHeartbeats 400000 in
set_option maxRecDepth 100000 in
theorem wX0_row_b40 {nf : Nat} {p : Program} {l : Launch} {e : Env} {s : State} {m : MethodId} {args : Array Value} {below : List Frame} {meth : Method} {c : Code} {D : va_G} {dA : Nat → ClassId} {s0 : Nat} {T : xT} {N : xT} {Z : Nat} {L : xL} {R : xR}  {ro : Int32} {Io : xI} (X : Cx D dA s0 p m c cX0_row 5 s args RX0 meth) (hr : meth.sig.returnType = (some .int))   (k : Nat) : ∀ {I : xI} {x0 : Nat} {x1 : Int32} {x2 : Int32} {x3 : Int32} {H : Heap} {locs : List Loc} {ls : Array Slot} , fX0_row_b40 nf T N R k I x0 x1 x2 x3 = some (ro, Io) → Iv D dA s0 s T N Z I L R H locs → lv_has ls 5 [(0, .ref x0), (1, .int x1), (2, .int x2), (3, .int x3)] → W p l e { frames := 3, cells := 0, slots := 0, locals := 65 } s m args below meth c H locs 0 0 (MQ below (xQ D dA s0 (some (.int ro)) T N Z Io L R) args s 0 0 (fun q => s0 ≤ q)) (F0 m 40 ls []) := by
  have hx := X.1.1
  have hb := X.1.2.1
  induction k with
  | zero =>
    intro I x0 x1 x2 x3 H locs ls hf V hl
    exact absurd (show none = some _ from hf) (fun q => nomatch q)
  | succ k ih =>
    intro I x0 x1 x2 x3 H locs ls hf V hl
    rw [fX0_row_b40] at hf
    refine lv_iload_n (pc := 40) hx hb dX0_row_40 rfl (lv_at hl 3 rfl) ?_
    refine lv_iconst (pc := 41) (v := (ii 4)) hx hb dX0_row_41 (by decide) ?_
    refine lv_iadd (pc := 42) hx hb dX0_row_42 ?_
    refine lv_iload_n (pc := 43) hx hb dX0_row_43 rfl (lv_at hl 1 rfl) ?_
    refine lv_icmp_gt (pc := 44) (tgt := 180) hx hb dX0_row_44 (by decide) (fun c1 => ?_) (fun c1 => ?_)
    · replace hf := if_t hf c1
      refine lv_aload_n (pc := 180) hx hb dX0_row_180 rfl (lv_at hl 0 rfl) ?_
      refine lv_iload_n (pc := 181) hx hb dX0_row_181 rfl (lv_at hl 2 rfl) ?_
      replace hf := tg_s hf; obtain ⟨ht5, hf⟩ := hf
      replace hf := b2s hf; obtain ⟨r2, I3, hk_4, hf⟩ := hf
      refine x_callV0 (pc := 182) (As := [.int x2]) (rest := []) X V (mX0_settled l D dA s0 hk_4) okX0 ht5 q550 q552 qs4 q119 q553 ⟨rfl, hsX0_settled⟩ ⟨Nat.le_of_ble_eq_true rfl, Nat.le_of_ble_eq_true rfl⟩ rfl hl.1 rfl (Nat.le_of_ble_eq_true rfl) dX0_row_182 ⟨Nat.zero_le _, Nat.zero_le _⟩ (fun H locs V => W.eq (g2 := F0 m 185 ls [.int r2]) rfl ?_)
      cases hf
      exact x_iret (pc := 185) X V hr dX0_row_185
    · replace hf := if_f hf c1
      refine lv_aload_n (pc := 47) hx hb dX0_row_47 rfl (lv_at hl 0 rfl) ?_
      replace hf := tg_s hf; obtain ⟨ht6, hf⟩ := hf
      replace hf := bs hf; obtain ⟨a7, ha7, hf⟩ := hf
      refine x_get (pc := 48) X V okX0 ht6 2 (by decide) q362 (v := va_rf (R x0 2)) rfl dX0_row_48 ?_
      refine x_topr ha7 ?_
      replace hf := tg_s hf; obtain ⟨ht8, hf⟩ := hf
      refine x_getN (pc := 51) X V okX1 ht8 8 (by decide) q238 (v := .int (I a7 8)) rfl dX0_row_51 ?_
      refine lv_bipush (pc := 54) (v := (ii 10)) hx hb dX0_row_54 (by decide) ?_
      refine lv_icmp_ge (pc := 56) (tgt := 99) hx hb dX0_row_56 (by decide) (fun c9 => ?_) (fun c9 => ?_)
      · replace hf := if_t hf c9
        refine lv_iconst (pc := 99) (v := (ii 0)) hx hb dX0_row_99 (by decide) ?_
        exact wX0_row_b100 X hr ih hf V (lv_sub hl [0, 1, 2, 3] rfl)
      · replace hf := if_f hf c9
        refine lv_aload_n (pc := 59) hx hb dX0_row_59 rfl (lv_at hl 0 rfl) ?_
        replace hf := bs hf; obtain ⟨a10, ha10, hf⟩ := hf
        refine x_get (pc := 60) X V okX0 ht6 10 (by decide) q370 (v := va_rf (R x0 10)) rfl dX0_row_60 ?_
        refine x_topr ha10 ?_
        refine lv_iload_n (pc := 63) hx hb dX0_row_63 rfl (lv_at hl 3 rfl) ?_
        replace hf := rA_s hf; obtain ⟨j11, hjj11, htj11, hij11, hf⟩ := hf
        refine x_bald (pc := 64) X V htj11 hij11 hjj11 dX0_row_64 ?_
        refine lv_aload_n (pc := 65) hx hb dX0_row_65 rfl (lv_at hl 0 rfl) ?_
        refine x_get (pc := 66) X V okX0 ht6 10 (by decide) q370 (v := va_rf (R x0 10)) rfl dX0_row_66 ?_
        refine x_topr ha10 ?_
        refine lv_iload_n (pc := 69) hx hb dX0_row_69 rfl (lv_at hl 3 rfl) ?_
        refine lv_iconst (pc := 70) (v := (ii 1)) hx hb dX0_row_70 (by decide) ?_
        refine lv_iadd (pc := 71) hx hb dX0_row_71 ?_
        replace hf := rA_s hf; obtain ⟨j12, hjj12, htj12, hij12, hf⟩ := hf
        refine x_bald (pc := 72) X V htj12 hij12 hjj12 dX0_row_72 ?_
        refine lv_aload_n (pc := 73) hx hb dX0_row_73 rfl (lv_at hl 0 rfl) ?_
        refine x_get (pc := 74) X V okX0 ht6 10 (by decide) q370 (v := va_rf (R x0 10)) rfl dX0_row_74 ?_
        refine x_topr ha10 ?_
        refine lv_iload_n (pc := 77) hx hb dX0_row_77 rfl (lv_at hl 3 rfl) ?_
        refine lv_iconst (pc := 78) (v := (ii 2)) hx hb dX0_row_78 (by decide) ?_
        refine lv_iadd (pc := 79) hx hb dX0_row_79 ?_
        replace hf := rA_s hf; obtain ⟨j13, hjj13, htj13, hij13, hf⟩ := hf
        refine x_bald (pc := 80) X V htj13 hij13 hjj13 dX0_row_80 ?_
        refine lv_aload_n (pc := 81) hx hb dX0_row_81 rfl (lv_at hl 0 rfl) ?_
        refine x_get (pc := 82) X V okX0 ht6 10 (by decide) q370 (v := va_rf (R x0 10)) rfl dX0_row_82 ?_
        refine x_topr ha10 ?_
        refine lv_iload_n (pc := 85) hx hb dX0_row_85 rfl (lv_at hl 3 rfl) ?_
        refine lv_iconst (pc := 86) (v := (ii 3)) hx hb dX0_row_86 (by decide) ?_
        refine lv_iadd (pc := 87) hx hb dX0_row_87 ?_
        replace hf := rA_s hf; obtain ⟨j14, hjj14, htj14, hij14, hf⟩ := hf
        refine x_bald (pc := 88) X V htj14 hij14 hjj14 dX0_row_88 ?_
        replace hf := bs hf; obtain ⟨r15, hk_16, hf⟩ := hf
        refine x_callS0 (pc := 89) (As := [.int (I a10 j11), .int (I a10 j12), .int (I a10 j13), .int (I a10 j14)]) (rest := []) X V (mX0_canLane l D dA s0 hk_16) q558 q559 q119 q560 hsX0_canLane ⟨Nat.le_of_ble_eq_true rfl, Nat.le_of_ble_eq_true rfl⟩ rfl hl.1 rfl (Nat.le_of_ble_eq_true rfl) dX0_row_89 ⟨Nat.zero_le _, Nat.zero_le _⟩ (fun H locs V => W.eq (g2 := F0 m 92 ls [.int r15]) rfl ?_)
        refine lv_if_eq (pc := 92) (tgt := 99) hx hb dX0_row_92 (by decide) (fun c17 => ?_) (fun c17 => ?_)
        · replace hf := if_t hf c17
          refine lv_iconst (pc := 99) (v := (ii 0)) hx hb dX0_row_99 (by decide) ?_
          exact wX0_row_b100 X hr ih hf V (lv_sub hl [0, 1, 2, 3] rfl)
        · replace hf := if_f hf c17
          refine lv_iconst (pc := 95) (v := (ii 1)) hx hb dX0_row_95 (by decide) ?_
          refine lv_goto (pc := 96) (tgt := 100) hx hb dX0_row_96 (by decide) ?_
          exact wX0_row_b100 X hr ih hf V (lv_sub hl [0, 1, 2, 3] rfl)
set_option maxHeartbeats 400000 in
set_option maxRecDepth 100000 in
theorem wX0_row_e {nf : Nat} {p : Program} {l : Launch} {e : Env} {s : State} {m : MethodId} {args : Array Value} {below : List Frame} {meth : Method} {c : Code} {D : va_G} {dA : Nat → ClassId} {s0 : Nat} {T : xT} {N : xT} {Z : Nat} {I : xI} {L : xL} {R : xR} {H : Heap} {locs : List Loc} {ls : Array Slot} {x0 : Nat} {ro : Int32} {Io : xI} (X : Cx D dA s0 p m c cX0_row 5 s args RX0 meth) (hr : meth.sig.returnType = (some .int)) (hf : fX0_row nf T N I R x0 = some (ro, Io)) (V : Iv D dA s0 s T N Z I L R H locs) (hl : lv_has ls 5 [(0, .ref x0)]) : W p l e { frames := 3, cells := 0, slots := 0, locals := 65 } s m args below meth c H locs 0 0 (MQ below (xQ D dA s0 (some (.int ro)) T N Z Io L R) args s 0 0 (fun q => s0 ≤ q)) (F0 m 0 ls []) := by
  have hx := X.1.1
  have hb := X.1.2.1
  unfold fX0_row at hf
  refine lv_aload_n (pc := 0) hx hb dX0_row_0 rfl (lv_at hl 0 rfl) ?_
  replace hf := tg_s hf; obtain ⟨ht1, hf⟩ := hf
  refine x_get (pc := 1) X V okX0 ht1 11 (by decide) q371 (v := .int (I x0 11)) rfl dX0_row_1 ?_
  replace hf := nm_s hf; obtain ⟨u2, hu2, hf⟩ := hf
  refine x_topi hu2 ?_
  refine lv_istore_n (pc := 4) (lv' := [(1, .int u2), (0, .ref x0)]) hx hb dX0_row_4 rfl hl (by decide) rfl (fun ls hl => ?_)
  refine lv_aload_n (pc := 5) hx hb dX0_row_5 rfl (lv_at hl 1 rfl) ?_
  refine lv_iconst (pc := 6) (v := (ii 0)) hx hb dX0_row_6 (by decide) ?_
  replace hf := nm_s hf; obtain ⟨I3, hI3, hf⟩ := hf
  refine x_puti (pc := 7) X V okX0 (by decide) ht1 11 (by decide) q371 (Or.inl rfl) hI3 (fun _ _ _ => rfl) rfl rfl dX0_row_7 (fun H locs V => ?_)
  refine lv_iload_n (pc := 10) hx hb dX0_row_10 rfl (lv_at hl 0 rfl) ?_
  refine lv_if_ne (pc := 11) (tgt := 21) hx hb dX0_row_11 (by decide) (fun c4 => ?_) (fun c4 => ?_)
  · replace hf := if_f hf c4
    refine lv_iconst (pc := 21) (v := (ii 0)) hx hb dX0_row_21 (by decide) ?_
    refine lv_istore_n (pc := 22) (lv' := [(2, .int (ii 0)), (1, .int u2), (0, .ref x0)]) hx hb dX0_row_22 rfl hl (by decide) rfl (fun ls hl => ?_)
    refine lv_aload_n (pc := 23) hx hb dX0_row_23 rfl (lv_at hl 2 rfl) ?_
    refine lv_iload_n (pc := 24) hx hb dX0_row_24 rfl (lv_at hl 1 rfl) ?_
    refine lv_iconst (pc := 25) (v := (ii 4)) hx hb dX0_row_25 (by decide) ?_
    refine lv_irem (pc := 26) hx hb dX0_row_26 (by decide) ?_
    refine lv_if_ne (pc := 27) (tgt := 34) hx hb dX0_row_27 (by decide) (fun c5 => ?_) (fun c5 => ?_)
    · replace hf := if_f hf c5
      refine lv_iconst (pc := 34) (v := (ii 1)) hx hb dX0_row_34 (by decide) ?_
      replace hf := nm_s hf; obtain ⟨I6, hI6, hf⟩ := hf
      refine x_puti (pc := 35) X V okX0 (by decide) ht1 13 (by decide) q373 (Or.inl rfl) hI6 (fun _ _ _ => rfl) rfl rfl dX0_row_35 (fun H locs V => ?_)
      refine lv_iconst (pc := 38) (v := (ii 0)) hx hb dX0_row_38 (by decide) ?_
      refine lv_istore_n (pc := 39) (lv' := [(3, .int (ii 0)), (2, .int (ii 0)), (1, .int u2), (0, .ref x0)]) hx hb dX0_row_39 rfl hl (by decide) rfl (fun ls hl => ?_)
      exact wX0_row_b40 X hr nf hf V (lv_sub hl [3, 2, 1, 0] rfl)
    · replace hf := if_t hf c5
      refine lv_iconst (pc := 30) (v := (ii 0)) hx hb dX0_row_30 (by decide) ?_
      refine lv_goto (pc := 31) (tgt := 35) hx hb dX0_row_31 (by decide) ?_
      replace hf := nm_s hf; obtain ⟨I7, hI7, hf⟩ := hf
      refine x_puti (pc := 35) X V okX0 (by decide) ht1 13 (by decide) q373 (Or.inl rfl) hI7 (fun _ _ _ => rfl) rfl rfl dX0_row_35 (fun H locs V => ?_)
      refine lv_iconst (pc := 38) (v := (ii 0)) hx hb dX0_row_38 (by decide) ?_
      refine lv_istore_n (pc := 39) (lv' := [(3, .int (ii 0)), (2, .int (ii 0)), (1, .int u2), (0, .ref x0)]) hx hb dX0_row_39 rfl hl (by decide) rfl (fun ls hl => ?_)
      exact wX0_row_b40 X hr nf hf V (lv_sub hl [3, 2, 1, 0] rfl)
  · replace hf := if_t hf c4
    refine lv_aload_n (pc := 14) hx hb dX0_row_14 rfl (lv_at hl 1 rfl) ?_
    refine lv_bipush (pc := 15) (v := (-6 : Int32)) hx hb dX0_row_15 (by decide) ?_
    replace hf := b2s hf; obtain ⟨r8, I9, hk_10, hf⟩ := hf
    refine x_callV0 (pc := 17) (As := [.int (-6 : Int32)]) (rest := []) X V (mX0_refuse l D dA s0 hk_10) okX0 ht1 q452 q454 qs1 q119 q455 ⟨rfl, hsX0_refuse⟩ ⟨Nat.le_of_ble_eq_true rfl, Nat.le_of_ble_eq_true rfl⟩ rfl hl.1 rfl (Nat.le_of_ble_eq_true rfl) dX0_row_17 ⟨Nat.zero_le _, Nat.zero_le _⟩ (fun H locs V => W.eq (g2 := F0 m 20 ls [.int r8]) rfl ?_)
    cases hf
    exact x_iret (pc := 20) X V hr dX0_row_20
theorem mX0_row {nf : Nat} (l : Launch) (D : va_G) (dA : Nat → ClassId) (s0 : Nat) {T : xT} {N : xT} {Z : Nat} {I : xI} {L : xL} {R : xR} {x0 : Nat} {ro : Int32} {Io : xI} (hf : fX0_row nf T N I R x0 = some (ro, Io)) : XMet l D dA s0 yX0_row (ws_ yX0_row cX0_row 5 ((some .int))) (3) (65) [.ref x0] T N Z I L R (some (.int ro)) T N Z Io L R 0 0 :=
  x_start (own := RX0) rfl (by decide) (Nat.le_of_ble_eq_true rfl) (lv := [(0, .ref x0)]) rfl (fun p e s m below meth c ls X hr hini V hl => wX0_row_e X hr hf V hl)
set_option maxHeartbeats 400000 in
set_option maxRecDepth 100000 in
theorem wX0_gravel_e {p : Program} {l : Launch} {e : Env} {s : State} {m : MethodId} {args : Array Value} {below : List Frame} {meth : Method} {c : Code} {D : va_G} {dA : Nat → ClassId} {s0 : Nat} {T : xT} {N : xT} {Z : Nat} {I : xI} {L : xL} {R : xR} {H : Heap} {locs : List Loc} {ls : Array Slot} {x0 : Nat} {ro : Int32} (X : Cx D dA s0 p m c cX0_gravel 1 s args RX0 meth) (hr : meth.sig.returnType = (some .int)) (hf : fX0_gravel T I x0 = some ro) (V : Iv D dA s0 s T N Z I L R H locs) (hl : lv_has ls 1 [(0, .ref x0)]) : W p l e { frames := 0, cells := 0, slots := 0, locals := 0 } s m args below meth c H locs 0 0 (MQ below (xQ D dA s0 (some (.int ro)) T N Z I L R) args s 0 0 (fun q => s0 ≤ q)) (F0 m 0 ls []) := by
  have hx := X.1.1
  have hb := X.1.2.1
  unfold fX0_gravel at hf
  refine lv_aload_n (pc := 0) hx hb dX0_gravel_0 rfl (lv_at hl 0 rfl) ?_
  replace hf := tg_s hf; obtain ⟨ht1, hf⟩ := hf
  refine x_get (pc := 1) X V okX0 ht1 13 (by decide) q373 (v := .int (I x0 13)) rfl dX0_gravel_1 ?_
  cases hf
  exact x_iret (pc := 4) X V hr dX0_gravel_4
theorem mX0_gravel (l : Launch) (D : va_G) (dA : Nat → ClassId) (s0 : Nat) {T : xT} {N : xT} {Z : Nat} {I : xI} {L : xL} {R : xR} {x0 : Nat} {ro : Int32} (hf : fX0_gravel T I x0 = some ro) : XMet l D dA s0 yX0_gravel (ws_ yX0_gravel cX0_gravel 1 ((some .int))) (0) (0) [.ref x0] T N Z I L R (some (.int ro)) T N Z I L R 0 0 :=
  x_start (own := RX0) rfl (by decide) (Nat.le_of_ble_eq_true rfl) (lv := [(0, .ref x0)]) rfl (fun p e s m below meth c ls X hr hini V hl => wX0_gravel_e X hr hf V hl)
set_option maxHeartbeats 400000 in
set_option maxRecDepth 100000 in
theorem zX6_read_rX7_b38 {nf : Nat} {dA : Nat → ClassId} {T : xT} {N : xT} {Z : Nat} {S : Nat} {I : xI} {L : xL} {R : xR}  {x0 : Nat} {z0 : Nat} {ro : (Nat ⊕ Unit)} {To : xT} {No : xT} {Zo : Nat} {So : Nat} {Io : xI} {Ro : xR}  (hf : fX6_read_rX7_b38 nf (sv dA) T N Z S I L R x0 z0 = some (ro, To, No, Zo, So, Io, Ro)) : Z ≤ Zo ∧ S ≤ So := by
  unfold fX6_read_rX7_b38 at hf
  replace hf := tg_s hf; obtain ⟨ht1, hf⟩ := hf
  replace hf := b2s hf; obtain ⟨I2, R3, hk_4, hf⟩ := hf
  replace hf := tg_s hf; obtain ⟨ht5, hf⟩ := hf
  cases hf
  exact ⟨Nat.le_refl _, Nat.le_refl _⟩
set_option maxHeartbeats 400000 in
set_option maxRecDepth 100000 in
theorem wX6_read_rX7_b38 {nf : Nat} {kc ks : Nat} {cells slots : Nat} {p : Program} {l : Launch} {e : Env} {s : State} {m : MethodId} {args : Array Value} {below : List Frame} {meth : Method} {c : Code} {D : va_G} {dA : Nat → ClassId} {s0 : Nat} {T : xT} {N : xT} {Z : Nat} {S : Nat} {I : xI} {L : xL} {R : xR} {H : Heap} {locs : List Loc} {ls : Array Slot}  {x0 : Nat} {z0 : Nat} {ro : (Nat ⊕ Unit)} {To : xT} {No : xT} {Zo : Nat} {So : Nat} {Io : xI} {Ro : xR} (X : Cx D dA s0 p m c cX6_read 1 s args RX6 meth) (hr : meth.sig.returnType = none) (htE : c.exceptionTable.toList = [])   (hf : fX6_read_rX7_b38 nf (sv dA) T N Z S I L R x0 z0 = some (ro, To, No, Zo, So, Io, Ro)) (V : Iv D dA s0 s T N Z I L R H locs) (hl : lv_has ls 1 [(0, .ref x0)]) (hB : cells + (Zo - Z) ≤ kc ∧ slots + (So - S) ≤ ks) : W p l e { frames := 1490, cells := kc, slots := ks, locals := 31916 } s m args below meth c H locs cells slots (vx_MQ below (yQ D dA s0 (rV ro) To No Zo Io L Ro) (yX D dA s0 (rV ro) To No Zo Io L Ro) args s kc ks (fun q => s0 ≤ q)) (F0 m 38 ls [.ref z0]) := by
  have hx := X.1.1
  have hb := X.1.2.1
  unfold fX6_read_rX7_b38 at hf
  refine lv_dup (pc := 38) hx hb dX6_read_38 rfl ?_
  refine lv_aload_n (pc := 39) hx hb dX6_read_39 rfl (lv_at hl 0 rfl) ?_
  replace hf := tg_s hf; obtain ⟨ht1, hf⟩ := hf
  refine x_get (pc := 40) X V okX7 ht1 3 (by decide) q744 (v := .int (I x0 3)) rfl dX6_read_40 ?_
  replace hf := b2s hf; obtain ⟨I2, R3, hk_4, hf⟩ := hf
  refine x_callI0 (pc := 43) (As := [.int (I x0 3)]) (rest := [.ref z0]) X V (mX8_init l D dA s0 hk_4) q864 q865 q138 q866 rfl hsX8_init ⟨Nat.le_of_ble_eq_true rfl, Nat.le_of_ble_eq_true rfl⟩ rfl hl.1 rfl (Nat.le_of_ble_eq_true rfl) dX6_read_43 ⟨by show cells ≤ kc; omega, by show slots ≤ ks; omega⟩ (fun H locs V => W.eq (g2 := F0 m 46 ls [.ref z0]) rfl ?_)
  replace hf := tg_s hf; obtain ⟨ht5, hf⟩ := hf
  refine vx_athrow (pc := 46) hx hb dX6_read_46 ?_
  cases hf
  exact y_out X V htE okX8 ht5 (by omega) (by omega)
set_option maxHeartbeats 400000 in
set_option maxRecDepth 100000 in
theorem zX6_read_rX7_b21 {nf : Nat} {dA : Nat → ClassId} {T : xT} {N : xT} {Z : Nat} {S : Nat} {I : xI} {L : xL} {R : xR} {kk8 : xT → xT → Nat → Nat → xI → xR → Nat → Option ((Nat ⊕ Unit) × xT × xT × Nat × Nat × xI × xR)} {x0 : Nat} {ro : (Nat ⊕ Unit)} {To : xT} {No : xT} {Zo : Nat} {So : Nat} {Io : xI} {Ro : xR} (hm8 : ∀ {T : xT} {N : xT} {Z : Nat} {S : Nat} {I : xI} {R : xR} {x0 : Nat}, kk8 T N Z S I R x0 = some (ro, To, No, Zo, So, Io, Ro) → Z ≤ Zo ∧ S ≤ So) (hf : fX6_read_rX7_b21 nf kk8 (sv dA) T N Z S I L R x0 = some (ro, To, No, Zo, So, Io, Ro)) : Z ≤ Zo ∧ S ≤ So := by
  unfold fX6_read_rX7_b21 at hf
  have hm := hm8 hf
  exact ⟨by omega, by omega⟩
set_option maxHeartbeats 400000 in
set_option maxRecDepth 100000 in
theorem wX6_read_rX7_b21 {nf : Nat} {kc ks : Nat} {cells slots : Nat} {p : Program} {l : Launch} {e : Env} {s : State} {m : MethodId} {args : Array Value} {below : List Frame} {meth : Method} {c : Code} {D : va_G} {dA : Nat → ClassId} {s0 : Nat} {T : xT} {N : xT} {Z : Nat} {S : Nat} {I : xI} {L : xL} {R : xR} {H : Heap} {locs : List Loc} {ls : Array Slot} {kk8 : xT → xT → Nat → Nat → xI → xR → Nat → Option ((Nat ⊕ Unit) × xT × xT × Nat × Nat × xI × xR)} {x0 : Nat} {ro : (Nat ⊕ Unit)} {To : xT} {No : xT} {Zo : Nat} {So : Nat} {Io : xI} {Ro : xR} (X : Cx D dA s0 p m c cX6_read 1 s args RX6 meth) (hr : meth.sig.returnType = none) (htE : c.exceptionTable.toList = []) (hk8 : ∀ {T : xT} {N : xT} {Z : Nat} {S : Nat} {I : xI} {R : xR} {x0 : Nat} {H : Heap} {locs : List Loc} {ls : Array Slot} {cells slots : Nat} , kk8 T N Z S I R x0 = some (ro, To, No, Zo, So, Io, Ro) → Iv D dA s0 s T N Z I L R H locs → lv_has ls 1 [(0, .ref x0)] → cells + (Zo - Z) ≤ kc ∧ slots + (So - S) ≤ ks → W p l e { frames := 1490, cells := kc, slots := ks, locals := 31916 } s m args below meth c H locs cells slots (vx_MQ below (yQ D dA s0 (rV ro) To No Zo Io L Ro) (yX D dA s0 (rV ro) To No Zo Io L Ro) args s kc ks (fun q => s0 ≤ q)) (F0 m 8 ls [])) (hm8 : ∀ {T : xT} {N : xT} {Z : Nat} {S : Nat} {I : xI} {R : xR} {x0 : Nat}, kk8 T N Z S I R x0 = some (ro, To, No, Zo, So, Io, Ro) → Z ≤ Zo ∧ S ≤ So) (hf : fX6_read_rX7_b21 nf kk8 (sv dA) T N Z S I L R x0 = some (ro, To, No, Zo, So, Io, Ro)) (V : Iv D dA s0 s T N Z I L R H locs) (hl : lv_has ls 1 [(0, .ref x0)]) (hB : cells + (Zo - Z) ≤ kc ∧ slots + (So - S) ≤ ks) : W p l e { frames := 1490, cells := kc, slots := ks, locals := 31916 } s m args below meth c H locs cells slots (vx_MQ below (yQ D dA s0 (rV ro) To No Zo Io L Ro) (yX D dA s0 (rV ro) To No Zo Io L Ro) args s kc ks (fun q => s0 ≤ q)) (F0 m 21 ls []) := by
  have hx := X.1.1
  have hb := X.1.2.1
  unfold fX6_read_rX7_b21 at hf
  refine lv_goto (pc := 21) (tgt := 8) hx hb dX6_read_21 (by decide) ?_
  exact hk8 hf V (lv_sub hl [0] rfl) ⟨by omega, by omega⟩
set_option maxHeartbeats 400000 in
set_option maxRecDepth 100000 in
theorem zX6_read_rX7_b8 {nf : Nat} {dA : Nat → ClassId} {L : xL}  {ro : (Nat ⊕ Unit)} {To : xT} {No : xT} {Zo : Nat} {So : Nat} {Io : xI} {Ro : xR}  (k : Nat) : ∀ {T : xT} {N : xT} {Z : Nat} {S : Nat} {I : xI} {R : xR} {x0 : Nat}, fX6_read_rX7_b8 nf (sv dA) L k T N Z S I R x0 = some (ro, To, No, Zo, So, Io, Ro) → Z ≤ Zo ∧ S ≤ So := by
  induction k with
  | zero =>
    intro T N Z S I R x0 hf
    exact absurd (show none = some _ from hf) (fun q => nomatch q)
  | succ k ih =>
    intro T N Z S I R x0 hf
    rw [fX6_read_rX7_b8] at hf
    replace hf := bs hf; obtain ⟨a1, ha1, hf⟩ := hf
    replace hf := tg_s hf; obtain ⟨ht5, hf⟩ := hf
    replace hf := b2s hf; obtain ⟨r2, I3, hk_4, hf⟩ := hf
    rcases (Decidable.em (r2 = (ii 0))) with c6 | c6
    · replace hf := if_t hf c6
      rcases (Decidable.em ((I3 x0 1) ≤ (I3 x0 3))) with c7 | c7
      · replace hf := if_t hf c7
        cases hf
        exact ⟨Nat.le_refl _, Nat.le_refl _⟩
      · replace hf := if_f hf c7
        replace hf := nm_s hf; obtain ⟨T8, hT8, hf⟩ := hf
        replace hf := nm_s hf; obtain ⟨Z9, hZ9, hf⟩ := hf
        replace hf := nm_s hf; obtain ⟨S10, hS10, hf⟩ := hf
        have hm := zX6_read_rX7_b38 hf
        exact ⟨by omega, by omega⟩
    · replace hf := if_f hf c6
      replace hf := b7s hf; obtain ⟨r11, T12, N13, Z14, S15, I16, R17, hk_18, hf⟩ := hf
      have hm_hk_18 := zX7_clause hk_18
      replace hf := xc_s hf; rcases hf with ⟨a19, hr_21, hf⟩ | ⟨v20, hr_21, hf⟩
      · skip
        replace hf := tg_s hf; obtain ⟨ht22, hf⟩ := hf
        cases hf
        exact ⟨by omega, by omega⟩
      · skip
        have hm := zX6_read_rX7_b21 ih hf
        exact ⟨by omega, by omega⟩
set_option maxHeartbeats 400000 in
set_option maxRecDepth 100000 in
theorem wX6_read_rX7_b8 {nf : Nat} {kc ks : Nat} {p : Program} {l : Launch} {e : Env} {s : State} {m : MethodId} {args : Array Value} {below : List Frame} {meth : Method} {c : Code} {D : va_G} {dA : Nat → ClassId} {s0 : Nat} {L : xL}  {ro : (Nat ⊕ Unit)} {To : xT} {No : xT} {Zo : Nat} {So : Nat} {Io : xI} {Ro : xR} (X : Cx D dA s0 p m c cX6_read 1 s args RX6 meth) (hr : meth.sig.returnType = none) (htE : c.exceptionTable.toList = [])   (k : Nat) : ∀ {T : xT} {N : xT} {Z : Nat} {S : Nat} {I : xI} {R : xR} {x0 : Nat} {H : Heap} {locs : List Loc} {ls : Array Slot} {cells slots : Nat} , fX6_read_rX7_b8 nf (sv dA) L k T N Z S I R x0 = some (ro, To, No, Zo, So, Io, Ro) → Iv D dA s0 s T N Z I L R H locs → lv_has ls 1 [(0, .ref x0)] → cells + (Zo - Z) ≤ kc ∧ slots + (So - S) ≤ ks → W p l e { frames := 1490, cells := kc, slots := ks, locals := 31916 } s m args below meth c H locs cells slots (vx_MQ below (yQ D dA s0 (rV ro) To No Zo Io L Ro) (yX D dA s0 (rV ro) To No Zo Io L Ro) args s kc ks (fun q => s0 ≤ q)) (F0 m 8 ls []) := by
  have hx := X.1.1
  have hb := X.1.2.1
  induction k with
  | zero =>
    intro T N Z S I R x0 H locs ls cells slots hf V hl hB
    exact absurd (show none = some _ from hf) (fun q => nomatch q)
  | succ k ih =>
    intro T N Z S I R x0 H locs ls cells slots hf V hl hB
    have ihm : ∀ {T : xT} {N : xT} {Z : Nat} {S : Nat} {I : xI} {R : xR} {x0 : Nat}, fX6_read_rX7_b8 nf (sv dA) L k T N Z S I R x0 = some (ro, To, No, Zo, So, Io, Ro) → Z ≤ Zo ∧ S ≤ So := zX6_read_rX7_b8 k
    rw [fX6_read_rX7_b8] at hf
    refine lv_aload_n (pc := 8) hx hb dX6_read_8 rfl (lv_at hl 0 rfl) ?_
    replace hf := bs hf; obtain ⟨a1, ha1, hf⟩ := hf
    refine x_ldcS (pc := 9) X 42 rfl ha1 dX6_read_9 ?_
    replace hf := tg_s hf; obtain ⟨ht5, hf⟩ := hf
    replace hf := b2s hf; obtain ⟨r2, I3, hk_4, hf⟩ := hf
    refine x_callU (pc := 11) (As := [.ref a1]) (rest := []) X V (mX6_takes_rX7 l D dA s0 hk_4) okX7 ht5 q931 q933 q934 q932 q133 q936 rfl hsX6_takes_rX7 ⟨Nat.le_of_ble_eq_true rfl, Nat.le_of_ble_eq_true rfl⟩ rfl hl.1 rfl (Nat.le_of_ble_eq_true rfl) dX6_read_11 ⟨by show cells ≤ kc; omega, by show slots ≤ ks; omega⟩ (fun H locs V => W.eq (g2 := F0 m 14 ls [.int r2]) rfl ?_)
    refine lv_if_eq (pc := 14) (tgt := 24) hx hb dX6_read_14 (by decide) (fun c6 => ?_) (fun c6 => ?_)
    · replace hf := if_t hf c6
      refine lv_aload_n (pc := 24) hx hb dX6_read_24 rfl (lv_at hl 0 rfl) ?_
      refine x_get (pc := 25) X V okX7 ht5 3 (by decide) q744 (v := .int (I3 x0 3)) rfl dX6_read_25 ?_
      refine lv_aload_n (pc := 28) hx hb dX6_read_28 rfl (lv_at hl 0 rfl) ?_
      refine x_get (pc := 29) X V okX7 ht5 1 (by decide) q742 (v := .int (I3 x0 1)) rfl dX6_read_29 ?_
      refine lv_icmp_ge (pc := 32) (tgt := 47) hx hb dX6_read_32 (by decide) (fun c7 => ?_) (fun c7 => ?_)
      · replace hf := if_t hf c7
        cases hf
        exact y_vret (pc := 47) X V hr (by omega) (by omega) dX6_read_47
      · replace hf := if_f hf c7
        replace hf := nm_s hf; obtain ⟨T8, hT8, hf⟩ := hf
        replace hf := nm_s hf; obtain ⟨Z9, hZ9, hf⟩ := hf
        replace hf := nm_s hf; obtain ⟨S10, hS10, hf⟩ := hf
        have hm := zX6_read_rX7_b38 hf
        refine x_new (pc := 35) X V okX8 hT8 hZ9 q855 q856 q138 (by show _ ≤ kc; omega) (by show _ ≤ ks; omega) dX6_read_35 (fun H V => ?_)
        exact wX6_read_rX7_b38 X hr htE hf V (lv_sub hl [0] rfl) ⟨by omega, by omega⟩
    · replace hf := if_f hf c6
      refine lv_aload_n (pc := 17) hx hb dX6_read_17 rfl (lv_at hl 0 rfl) ?_
      replace hf := b7s hf; obtain ⟨r11, T12, N13, Z14, S15, I16, R17, hk_18, hf⟩ := hf
      have hm_hk_18 := zX7_clause hk_18
      replace hf := xc_s hf; rcases hf with ⟨a19, hr_21, hf⟩ | ⟨v20, hr_21, hf⟩
      · rw [hr_21] at hk_18
        replace hf := tg_s hf; obtain ⟨ht22, hf⟩ := hf
        have hzE : Z14 = Zo := by cases hf; rfl
        have hsE : S15 = So := by cases hf; rfl
        refine y_afterX (y_runA (pc := 18) (As := []) (rest := []) X V (mX7_clause l D dA s0 (kc := Z14 - Z) (ks := S15 - S) (Nat.le_refl _) (Nat.le_refl _) hk_18) okX7 ht5 q788 q790 q791 q792 q134 q793 q789 hu_X6_clause ⟨Nat.le_of_ble_eq_true rfl, Nat.le_of_ble_eq_true rfl⟩ rfl hl.1 rfl (Nat.le_of_ble_eq_true rfl) dX6_read_18 ⟨by show _ ≤ kc; omega, by show _ ≤ ks; omega⟩) V (fun H locs V => ?_)
        cases hf
        exact y_out X V htE okX8 ht22 (by omega) (by omega)
      · rw [hr_21] at hk_18
        have hm := zX6_read_rX7_b21 ihm hf
        refine y_afterR (y_runA (pc := 18) (As := []) (rest := []) X V (mX7_clause l D dA s0 (kc := Z14 - Z) (ks := S15 - S) (Nat.le_refl _) (Nat.le_refl _) hk_18) okX7 ht5 q788 q790 q791 q792 q134 q793 q789 hu_X6_clause ⟨Nat.le_of_ble_eq_true rfl, Nat.le_of_ble_eq_true rfl⟩ rfl hl.1 rfl (Nat.le_of_ble_eq_true rfl) dX6_read_18 ⟨by show _ ≤ kc; omega, by show _ ≤ ks; omega⟩) V (fun H locs V => W.eq (g2 := F0 m 21 ls []) rfl ?_)
        exact wX6_read_rX7_b21 X hr htE ih ihm hf V (lv_sub hl [0] rfl) ⟨by omega, by omega⟩
set_option maxHeartbeats 400000 in
set_option maxRecDepth 100000 in
theorem zX6_read_rX7 {nf : Nat} {dA : Nat → ClassId} {T : xT} {N : xT} {Z : Nat} {S : Nat} {I : xI} {L : xL} {R : xR} {x0 : Nat} {ro : (Nat ⊕ Unit)} {To : xT} {No : xT} {Zo : Nat} {So : Nat} {Io : xI} {Ro : xR} (hf : fX6_read_rX7 nf (sv dA) T N Z S I L R x0 = some (ro, To, No, Zo, So, Io, Ro)) : Z ≤ Zo ∧ S ≤ So := by
  unfold fX6_read_rX7 at hf
  replace hf := tg_s hf; obtain ⟨ht3, hf⟩ := hf
  replace hf := bs hf; obtain ⟨I1, hk_2, hf⟩ := hf
  replace hf := b7s hf; obtain ⟨r4, T5, N6, Z7, S8, I9, R10, hk_11, hf⟩ := hf
  have hm_hk_11 := zX7_clause hk_11
  replace hf := xc_s hf; rcases hf with ⟨a12, hr_14, hf⟩ | ⟨v13, hr_14, hf⟩
  · skip
    replace hf := tg_s hf; obtain ⟨ht15, hf⟩ := hf
    cases hf
    exact ⟨by omega, by omega⟩
  · skip
    have hm := zX6_read_rX7_b8 nf hf
    exact ⟨by omega, by omega⟩
set_option maxHeartbeats 400000 in
set_option maxRecDepth 100000 in
theorem wX6_read_rX7_e {nf : Nat} {kc ks : Nat} {cells slots : Nat} {p : Program} {l : Launch} {e : Env} {s : State} {m : MethodId} {args : Array Value} {below : List Frame} {meth : Method} {c : Code} {D : va_G} {dA : Nat → ClassId} {s0 : Nat} {T : xT} {N : xT} {Z : Nat} {S : Nat} {I : xI} {L : xL} {R : xR} {H : Heap} {locs : List Loc} {ls : Array Slot} {x0 : Nat} {ro : (Nat ⊕ Unit)} {To : xT} {No : xT} {Zo : Nat} {So : Nat} {Io : xI} {Ro : xR} (X : Cx D dA s0 p m c cX6_read 1 s args RX6 meth) (hr : meth.sig.returnType = none) (htE : c.exceptionTable.toList = []) (hf : fX6_read_rX7 nf (sv dA) T N Z S I L R x0 = some (ro, To, No, Zo, So, Io, Ro)) (V : Iv D dA s0 s T N Z I L R H locs) (hl : lv_has ls 1 [(0, .ref x0)]) (hB : cells + (Zo - Z) ≤ kc ∧ slots + (So - S) ≤ ks) : W p l e { frames := 1490, cells := kc, slots := ks, locals := 31916 } s m args below meth c H locs cells slots (vx_MQ below (yQ D dA s0 (rV ro) To No Zo Io L Ro) (yX D dA s0 (rV ro) To No Zo Io L Ro) args s kc ks (fun q => s0 ≤ q)) (F0 m 0 ls []) := by
  have hx := X.1.1
  have hb := X.1.2.1
  unfold fX6_read_rX7 at hf
  refine lv_aload_n (pc := 0) hx hb dX6_read_0 rfl (lv_at hl 0 rfl) ?_
  replace hf := tg_s hf; obtain ⟨ht3, hf⟩ := hf
  replace hf := bs hf; obtain ⟨I1, hk_2, hf⟩ := hf
  refine x_callU (pc := 1) (As := []) (rest := []) X V (mX6_next_rX7 l D dA s0 hk_2) okX7 ht3 q776 q778 q779 q777 q133 q781 rfl hsX6_next_rX7 ⟨Nat.le_of_ble_eq_true rfl, Nat.le_of_ble_eq_true rfl⟩ rfl hl.1 rfl (Nat.le_of_ble_eq_true rfl) dX6_read_1 ⟨by show cells ≤ kc; omega, by show slots ≤ ks; omega⟩ (fun H locs V => W.eq (g2 := F0 m 4 ls []) rfl ?_)
  refine lv_aload_n (pc := 4) hx hb dX6_read_4 rfl (lv_at hl 0 rfl) ?_
  replace hf := b7s hf; obtain ⟨r4, T5, N6, Z7, S8, I9, R10, hk_11, hf⟩ := hf
  have hm_hk_11 := zX7_clause hk_11
  replace hf := xc_s hf; rcases hf with ⟨a12, hr_14, hf⟩ | ⟨v13, hr_14, hf⟩
  · rw [hr_14] at hk_11
    replace hf := tg_s hf; obtain ⟨ht15, hf⟩ := hf
    have hzE : Z7 = Zo := by cases hf; rfl
    have hsE : S8 = So := by cases hf; rfl
    refine y_afterX (y_runA (pc := 5) (As := []) (rest := []) X V (mX7_clause l D dA s0 (kc := Z7 - Z) (ks := S8 - S) (Nat.le_refl _) (Nat.le_refl _) hk_11) okX7 ht3 q788 q790 q791 q792 q134 q793 q789 hu_X6_clause ⟨Nat.le_of_ble_eq_true rfl, Nat.le_of_ble_eq_true rfl⟩ rfl hl.1 rfl (Nat.le_of_ble_eq_true rfl) dX6_read_5 ⟨by show _ ≤ kc; omega, by show _ ≤ ks; omega⟩) V (fun H locs V => ?_)
    cases hf
    exact y_out X V htE okX8 ht15 (by omega) (by omega)
  · rw [hr_14] at hk_11
    have hm := zX6_read_rX7_b8 nf hf
    refine y_afterR (y_runA (pc := 5) (As := []) (rest := []) X V (mX7_clause l D dA s0 (kc := Z7 - Z) (ks := S8 - S) (Nat.le_refl _) (Nat.le_refl _) hk_11) okX7 ht3 q788 q790 q791 q792 q134 q793 q789 hu_X6_clause ⟨Nat.le_of_ble_eq_true rfl, Nat.le_of_ble_eq_true rfl⟩ rfl hl.1 rfl (Nat.le_of_ble_eq_true rfl) dX6_read_5 ⟨by show _ ≤ kc; omega, by show _ ≤ ks; omega⟩) V (fun H locs V => W.eq (g2 := F0 m 8 ls []) rfl ?_)
    exact wX6_read_rX7_b8 X hr htE nf hf V (lv_sub hl [0] rfl) ⟨by omega, by omega⟩
theorem mX6_read_rX7 {nf : Nat} (l : Launch) (D : va_G) (dA : Nat → ClassId) (s0 : Nat) {kc ks : Nat} {T : xT} {N : xT} {Z : Nat} {S : Nat} {I : xI} {L : xL} {R : xR} {x0 : Nat} {ro : (Nat ⊕ Unit)} {To : xT} {No : xT} {Zo : Nat} {So : Nat} {Io : xI} {Ro : xR} (hZ : Zo - Z ≤ kc) (hS : So - S ≤ ks) (hf : fX6_read_rX7 nf (sv dA) T N Z S I L R x0 = some (ro, To, No, Zo, So, Io, Ro)) : YMet l D dA s0 yX6_read (ws_ yX6_read cX6_read 1 (none)) (1490) (31916) [.ref x0] T N Z I L R (rV ro) To No Zo Io L Ro kc ks :=
  y_start (own := RX6) rfl (by decide) (Nat.le_of_ble_eq_true rfl) (lv := [(0, .ref x0)]) rfl (fun p e s m below meth c ls X hr htE V hl => wX6_read_rX7_e X hr htE hf V hl ⟨by omega, by omega⟩)
set_option maxHeartbeats 400000 in
set_option maxRecDepth 100000 in
theorem zX0_reads_ndX7_b7 {nf : Nat} {dA : Nat → ClassId} {T : xT} {N : xT} {Z : Nat} {S : Nat} {I : xI} {L : xL} {R : xR}  {x0 : Nat} {z0 : Nat} {ro : Int32} {To : xT} {No : xT} {Zo : Nat} {So : Nat} {Io : xI} {Ro : xR}  (hf : fX0_reads_ndX7_b7 nf (sv dA) T N Z S I L R x0 z0 = some (ro, To, No, Zo, So, Io, Ro)) : Z ≤ Zo ∧ S ≤ So := by
  unfold fX0_reads_ndX7_b7 at hf
  replace hf := tg_s hf; obtain ⟨ht1, hf⟩ := hf
  replace hf := tg_s hf; obtain ⟨ht2, hf⟩ := hf
  replace hf := nm_s hf; obtain ⟨I3, hI3, hf⟩ := hf
  cases hf
  exact ⟨Nat.le_refl _, Nat.le_refl _⟩
set_option maxHeartbeats 400000 in
set_option maxRecDepth 100000 in
theorem wX0_reads_ndX7_b7 {nf : Nat} {kc ks : Nat} {cells slots : Nat} {p : Program} {l : Launch} {e : Env} {s : State} {m : MethodId} {args : Array Value} {below : List Frame} {meth : Method} {c : Code} {D : va_G} {dA : Nat → ClassId} {s0 : Nat} {T : xT} {N : xT} {Z : Nat} {S : Nat} {I : xI} {L : xL} {R : xR} {H : Heap} {locs : List Loc} {ls : Array Slot}  {x0 : Nat} {z0 : Nat} {ro : Int32} {To : xT} {No : xT} {Zo : Nat} {So : Nat} {Io : xI} {Ro : xR} (X : Cx D dA s0 p m c cX0_reads 3 s args RX0 meth) (hr : meth.sig.returnType = (some .boolean)) (htE : c.exceptionTable.toList = [⟨0, 4, 7, 224⟩])   (hf : fX0_reads_ndX7_b7 nf (sv dA) T N Z S I L R x0 z0 = some (ro, To, No, Zo, So, Io, Ro)) (V : Iv D dA s0 s T N Z I L R H locs) (hl : lv_has ls 3 [(0, .ref x0)]) (hB : cells + (Zo - Z) ≤ kc ∧ slots + (So - S) ≤ ks) : W p l e { frames := 1491, cells := kc, slots := ks, locals := 31936 } s m args below meth c H locs cells slots (vx_MQ below (yQ D dA s0 (rI (.inr ro)) To No Zo Io L Ro) (yX D dA s0 (rI (.inr ro)) To No Zo Io L Ro) args s kc ks (fun q => s0 ≤ q)) (F0 m 7 ls [.ref z0]) := by
  have hx := X.1.1
  have hb := X.1.2.1
  unfold fX0_reads_ndX7_b7 at hf
  refine lv_astore_n (pc := 7) (lv' := [(2, .ref z0), (0, .ref x0)]) hx hb dX0_reads_7 rfl hl (by decide) rfl (fun ls hl => ?_)
  refine lv_aload_n (pc := 8) hx hb dX0_reads_8 rfl (lv_at hl 1 rfl) ?_
  refine lv_aload_n (pc := 9) hx hb dX0_reads_9 rfl (lv_at hl 0 rfl) ?_
  replace hf := tg_s hf; obtain ⟨ht1, hf⟩ := hf
  refine x_getN (pc := 10) X V okX8 ht1 6 (by decide) q869 (v := .int (I z0 6)) rfl dX0_reads_10 ?_
  replace hf := tg_s hf; obtain ⟨ht2, hf⟩ := hf
  replace hf := nm_s hf; obtain ⟨I3, hI3, hf⟩ := hf
  refine x_puti (pc := 13) X V okX0 (by decide) ht2 12 (by decide) q372 (Or.inl rfl) hI3 (fun _ _ _ => rfl) rfl rfl dX0_reads_13 (fun H locs V => ?_)
  refine lv_iconst (pc := 16) (v := (ii 0)) hx hb dX0_reads_16 (by decide) ?_
  cases hf
  exact y_zret (pc := 17) X V hr (by omega) (by omega) (by decide) dX0_reads_17
set_option maxHeartbeats 400000 in
set_option maxRecDepth 100000 in
theorem zX0_reads_ndX7_b4 {nf : Nat} {dA : Nat → ClassId} {T : xT} {N : xT} {Z : Nat} {S : Nat} {I : xI} {L : xL} {R : xR}  {x0 : Nat} {ro : Int32} {To : xT} {No : xT} {Zo : Nat} {So : Nat} {Io : xI} {Ro : xR}  (hf : fX0_reads_ndX7_b4 nf (sv dA) T N Z S I L R x0 = some (ro, To, No, Zo, So, Io, Ro)) : Z ≤ Zo ∧ S ≤ So := by
  unfold fX0_reads_ndX7_b4 at hf
  replace hf := tg_s hf; obtain ⟨ht1, hf⟩ := hf
  replace hf := nm_s hf; obtain ⟨I2, hI2, hf⟩ := hf
  cases hf
  exact ⟨Nat.le_refl _, Nat.le_refl _⟩
set_option maxHeartbeats 400000 in
set_option maxRecDepth 100000 in
theorem wX0_reads_ndX7_b4 {nf : Nat} {kc ks : Nat} {cells slots : Nat} {p : Program} {l : Launch} {e : Env} {s : State} {m : MethodId} {args : Array Value} {below : List Frame} {meth : Method} {c : Code} {D : va_G} {dA : Nat → ClassId} {s0 : Nat} {T : xT} {N : xT} {Z : Nat} {S : Nat} {I : xI} {L : xL} {R : xR} {H : Heap} {locs : List Loc} {ls : Array Slot}  {x0 : Nat} {ro : Int32} {To : xT} {No : xT} {Zo : Nat} {So : Nat} {Io : xI} {Ro : xR} (X : Cx D dA s0 p m c cX0_reads 3 s args RX0 meth) (hr : meth.sig.returnType = (some .boolean)) (htE : c.exceptionTable.toList = [⟨0, 4, 7, 224⟩])   (hf : fX0_reads_ndX7_b4 nf (sv dA) T N Z S I L R x0 = some (ro, To, No, Zo, So, Io, Ro)) (V : Iv D dA s0 s T N Z I L R H locs) (hl : lv_has ls 3 [(0, .ref x0)]) (hB : cells + (Zo - Z) ≤ kc ∧ slots + (So - S) ≤ ks) : W p l e { frames := 1491, cells := kc, slots := ks, locals := 31936 } s m args below meth c H locs cells slots (vx_MQ below (yQ D dA s0 (rI (.inr ro)) To No Zo Io L Ro) (yX D dA s0 (rI (.inr ro)) To No Zo Io L Ro) args s kc ks (fun q => s0 ≤ q)) (F0 m 4 ls []) := by
  have hx := X.1.1
  have hb := X.1.2.1
  unfold fX0_reads_ndX7_b4 at hf
  refine lv_goto (pc := 4) (tgt := 18) hx hb dX0_reads_4 (by decide) ?_
  refine lv_aload_n (pc := 18) hx hb dX0_reads_18 rfl (lv_at hl 0 rfl) ?_
  refine lv_iconst (pc := 19) (v := (-1 : Int32)) hx hb dX0_reads_19 (by decide) ?_
  replace hf := tg_s hf; obtain ⟨ht1, hf⟩ := hf
  replace hf := nm_s hf; obtain ⟨I2, hI2, hf⟩ := hf
  refine x_puti (pc := 20) X V okX0 (by decide) ht1 12 (by decide) q372 (Or.inl rfl) hI2 (fun _ _ _ => rfl) rfl rfl dX0_reads_20 (fun H locs V => ?_)
  refine lv_iconst (pc := 23) (v := (ii 1)) hx hb dX0_reads_23 (by decide) ?_
  cases hf
  exact y_zret (pc := 24) X V hr (by omega) (by omega) (by decide) dX0_reads_24
set_option maxHeartbeats 400000 in
set_option maxRecDepth 100000 in
theorem zX0_reads_ndX7 {nf : Nat} {dA : Nat → ClassId} {T : xT} {N : xT} {Z : Nat} {S : Nat} {I : xI} {L : xL} {R : xR} {x0 : Nat} {x1 : Nat} {ro : Int32} {To : xT} {No : xT} {Zo : Nat} {So : Nat} {Io : xI} {Ro : xR} (hf : fX0_reads_ndX7 nf (sv dA) T N Z S I L R x0 x1 = some (ro, To, No, Zo, So, Io, Ro)) : Z ≤ Zo ∧ S ≤ So := by
  unfold fX0_reads_ndX7 at hf
  replace hf := tg_s hf; obtain ⟨ht9, hf⟩ := hf
  replace hf := b7s hf; obtain ⟨r1, T2, N3, Z4, S5, I6, R7, hk_8, hf⟩ := hf
  have hm_hk_8 := zX6_read_rX7 hk_8
  replace hf := xc_s hf; rcases hf with ⟨a10, hr_12, hf⟩ | ⟨v11, hr_12, hf⟩
  · skip
    replace hf := tg_s hf; obtain ⟨ht13, hf⟩ := hf
    have hm := zX0_reads_ndX7_b7 hf
    exact ⟨by omega, by omega⟩
  · skip
    have hm := zX0_reads_ndX7_b4 hf
    exact ⟨by omega, by omega⟩
set_option maxHeartbeats 400000 in
set_option maxRecDepth 100000 in
theorem wX0_reads_ndX7_e {nf : Nat} {kc ks : Nat} {cells slots : Nat} {p : Program} {l : Launch} {e : Env} {s : State} {m : MethodId} {args : Array Value} {below : List Frame} {meth : Method} {c : Code} {D : va_G} {dA : Nat → ClassId} {s0 : Nat} {T : xT} {N : xT} {Z : Nat} {S : Nat} {I : xI} {L : xL} {R : xR} {H : Heap} {locs : List Loc} {ls : Array Slot} {x0 : Nat} {x1 : Nat} {ro : Int32} {To : xT} {No : xT} {Zo : Nat} {So : Nat} {Io : xI} {Ro : xR} (X : Cx D dA s0 p m c cX0_reads 3 s args RX0 meth) (hr : meth.sig.returnType = (some .boolean)) (htE : c.exceptionTable.toList = [⟨0, 4, 7, 224⟩]) (hf : fX0_reads_ndX7 nf (sv dA) T N Z S I L R x0 x1 = some (ro, To, No, Zo, So, Io, Ro)) (V : Iv D dA s0 s T N Z I L R H locs) (hl : lv_has ls 3 [(0, .ref x0), (1, .ref x1)]) (hB : cells + (Zo - Z) ≤ kc ∧ slots + (So - S) ≤ ks) : W p l e { frames := 1491, cells := kc, slots := ks, locals := 31936 } s m args below meth c H locs cells slots (vx_MQ below (yQ D dA s0 (rI (.inr ro)) To No Zo Io L Ro) (yX D dA s0 (rI (.inr ro)) To No Zo Io L Ro) args s kc ks (fun q => s0 ≤ q)) (F0 m 0 ls []) := by
  have hx := X.1.1
  have hb := X.1.2.1
  unfold fX0_reads_ndX7 at hf
  refine lv_aload_n (pc := 0) hx hb dX0_reads_0 rfl (lv_at hl 1 rfl) ?_
  replace hf := tg_s hf; obtain ⟨ht9, hf⟩ := hf
  replace hf := b7s hf; obtain ⟨r1, T2, N3, Z4, S5, I6, R7, hk_8, hf⟩ := hf
  have hm_hk_8 := zX6_read_rX7 hk_8
  replace hf := xc_s hf; rcases hf with ⟨a10, hr_12, hf⟩ | ⟨v11, hr_12, hf⟩
  · rw [hr_12] at hk_8
    replace hf := tg_s hf; obtain ⟨ht13, hf⟩ := hf
    have hm := zX0_reads_ndX7_b7 hf
    refine y_afterX (y_runU (pc := 1) (As := []) (rest := []) X V (mX6_read_rX7 l D dA s0 (kc := Z4 - Z) (ks := S5 - S) (Nat.le_refl _) (Nat.le_refl _) hk_8) okX7 ht9 q770 q772 q773 q771 q133 q775 rfl hsX6_read_rX7 ⟨Nat.le_of_ble_eq_true rfl, Nat.le_of_ble_eq_true rfl⟩ rfl hl.1 rfl (Nat.le_of_ble_eq_true rfl) dX0_reads_1 ⟨by show _ ≤ kc; omega, by show _ ≤ ks; omega⟩) V (fun H locs V => ?_)
    refine y_catch (pc := 1) X V [] ⟨0, 4, 7, 224⟩ [] htE (by decide) (by decide) (by decide) q769 q857 okX8 ht13 ?_
    exact wX0_reads_ndX7_b7 X hr htE hf V (lv_sub hl [0] rfl) ⟨by omega, by omega⟩
  · rw [hr_12] at hk_8
    have hm := zX0_reads_ndX7_b4 hf
    refine y_afterR (y_runU (pc := 1) (As := []) (rest := []) X V (mX6_read_rX7 l D dA s0 (kc := Z4 - Z) (ks := S5 - S) (Nat.le_refl _) (Nat.le_refl _) hk_8) okX7 ht9 q770 q772 q773 q771 q133 q775 rfl hsX6_read_rX7 ⟨Nat.le_of_ble_eq_true rfl, Nat.le_of_ble_eq_true rfl⟩ rfl hl.1 rfl (Nat.le_of_ble_eq_true rfl) dX0_reads_1 ⟨by show _ ≤ kc; omega, by show _ ≤ ks; omega⟩) V (fun H locs V => W.eq (g2 := F0 m 4 ls []) rfl ?_)
    exact wX0_reads_ndX7_b4 X hr htE hf V (lv_sub hl [0] rfl) ⟨by omega, by omega⟩
theorem mX0_reads_ndX7 {nf : Nat} (l : Launch) (D : va_G) (dA : Nat → ClassId) (s0 : Nat) {kc ks : Nat} {T : xT} {N : xT} {Z : Nat} {S : Nat} {I : xI} {L : xL} {R : xR} {x0 : Nat} {x1 : Nat} {ro : Int32} {To : xT} {No : xT} {Zo : Nat} {So : Nat} {Io : xI} {Ro : xR} (hZ : Zo - Z ≤ kc) (hS : So - S ≤ ks) (hf : fX0_reads_ndX7 nf (sv dA) T N Z S I L R x0 x1 = some (ro, To, No, Zo, So, Io, Ro)) : YMet l D dA s0 yX0_reads (wsW_ yX0_reads cX0_reads 3 ((some .boolean)) [(0, 4, 7, 224)]) (1491) (31936) [.ref x0, .ref x1] T N Z I L R (rI (.inr ro)) To No Zo Io L Ro kc ks :=
  y_startH (own := RX0) rfl (by decide) (Nat.le_of_ble_eq_true rfl) (lv := [(0, .ref x0), (1, .ref x1)]) rfl rfl (fun p e s m below meth c ls X hr htE V hl => wX0_reads_ndX7_e X hr htE hf V hl ⟨by omega, by omega⟩)
set_option maxHeartbeats 400000 in
set_option maxRecDepth 100000 in
theorem zX0_law_b81 {nf : Nat} {dA : Nat → ClassId} {T : xT} {N : xT} {Z : Nat} {S : Nat} {I : xI} {L : xL} {R : xR}  {x0 : Nat} {z0 : Int32} {ro : Int32} {To : xT} {No : xT} {Zo : Nat} {So : Nat} {Io : xI} {Ro : xR}  (hf : fX0_law_b81 nf (sv dA) T N Z S I L R x0 z0 = some (ro, To, No, Zo, So, Io, Ro)) : Z ≤ Zo ∧ S ≤ So := by
  unfold fX0_law_b81 at hf
  replace hf := tg_s hf; obtain ⟨ht1, hf⟩ := hf
  replace hf := bs hf; obtain ⟨a2, ha2, hf⟩ := hf
  replace hf := tg_s hf; obtain ⟨ht3, hf⟩ := hf
  replace hf := bs hf; obtain ⟨a4, ha4, hf⟩ := hf
  replace hf := tg_s hf; obtain ⟨ht7, hf⟩ := hf
  replace hf := bs hf; obtain ⟨r5, hk_6, hf⟩ := hf
  replace hf := b2s hf; obtain ⟨r8, I9, hk_10, hf⟩ := hf
  cases hf
  exact ⟨Nat.le_refl _, Nat.le_refl _⟩
set_option maxHeartbeats 400000 in
set_option maxRecDepth 100000 in
theorem wX0_law_b81 {nf : Nat} {kc ks : Nat} {cells slots : Nat} {p : Program} {l : Launch} {e : Env} {s : State} {m : MethodId} {args : Array Value} {below : List Frame} {meth : Method} {c : Code} {D : va_G} {dA : Nat → ClassId} {s0 : Nat} {T : xT} {N : xT} {Z : Nat} {S : Nat} {I : xI} {L : xL} {R : xR} {H : Heap} {locs : List Loc} {ls : Array Slot}  {x0 : Nat} {z0 : Int32} {ro : Int32} {To : xT} {No : xT} {Zo : Nat} {So : Nat} {Io : xI} {Ro : xR} (X : Cx D dA s0 p m c cX0_law 3 s args RX0 meth) (hr : meth.sig.returnType = (some .int))   (hf : fX0_law_b81 nf (sv dA) T N Z S I L R x0 z0 = some (ro, To, No, Zo, So, Io, Ro)) (V : Iv D dA s0 s T N Z I L R H locs) (hl : lv_has ls 3 [(0, .ref x0)]) (hB : cells + (Zo - Z) ≤ kc ∧ slots + (So - S) ≤ ks) : W p l e { frames := 1492, cells := kc, slots := ks, locals := 31958 } s m args below meth c H locs cells slots (MQ below (xQ D dA s0 (some (.int ro)) To No Zo Io L Ro) args s kc ks (fun q => s0 ≤ q)) (F0 m 81 ls [.int z0]) := by
  have hx := X.1.1
  have hb := X.1.2.1
  unfold fX0_law_b81 at hf
  refine lv_pop (pc := 81) hx hb dX0_law_81 rfl ?_
  refine lv_aload_n (pc := 82) hx hb dX0_law_82 rfl (lv_at hl 0 rfl) ?_
  refine lv_aload_n (pc := 83) hx hb dX0_law_83 rfl (lv_at hl 0 rfl) ?_
  replace hf := tg_s hf; obtain ⟨ht1, hf⟩ := hf
  replace hf := bs hf; obtain ⟨a2, ha2, hf⟩ := hf
  refine x_get (pc := 84) X V okX0 ht1 2 (by decide) q362 (v := va_rf (R x0 2)) rfl dX0_law_84 ?_
  refine x_topr ha2 ?_
  replace hf := tg_s hf; obtain ⟨ht3, hf⟩ := hf
  replace hf := bs hf; obtain ⟨a4, ha4, hf⟩ := hf
  refine x_getN (pc := 87) X V okX1 ht3 7 (by decide) q236 (v := va_rf (R a2 7)) rfl dX0_law_87 ?_
  refine x_topr ha4 ?_
  replace hf := tg_s hf; obtain ⟨ht7, hf⟩ := hf
  replace hf := bs hf; obtain ⟨r5, hk_6, hf⟩ := hf
  refine x_callV0 (pc := 90) (As := []) (rest := [.ref x0]) X V (mJ2_size l D dA s0 hk_6) okJ2 ht7 q727 q623 q624 q124 q625 ⟨rfl, hsJ2_size⟩ ⟨Nat.le_of_ble_eq_true rfl, Nat.le_of_ble_eq_true rfl⟩ rfl hl.1 rfl (Nat.le_of_ble_eq_true rfl) dX0_law_90 ⟨by show cells ≤ kc; omega, by show slots ≤ ks; omega⟩ (fun H locs V => W.eq (g2 := F0 m 93 ls [.int r5, .ref x0]) rfl ?_)
  refine lv_iconst (pc := 93) (v := (ii 1)) hx hb dX0_law_93 (by decide) ?_
  refine lv_isub (pc := 94) hx hb dX0_law_94 ?_
  replace hf := b2s hf; obtain ⟨r8, I9, hk_10, hf⟩ := hf
  refine x_callV0 (pc := 95) (As := [.int (r5 - (ii 1))]) (rest := []) X V (mX0_done l D dA s0 hk_10) okX0 ht1 q542 q544 qs3 q119 q545 ⟨rfl, hsX0_done⟩ ⟨Nat.le_of_ble_eq_true rfl, Nat.le_of_ble_eq_true rfl⟩ rfl hl.1 rfl (Nat.le_of_ble_eq_true rfl) dX0_law_95 ⟨by show cells ≤ kc; omega, by show slots ≤ ks; omega⟩ (fun H locs V => W.eq (g2 := F0 m 98 ls [.int r8]) rfl ?_)
  cases hf
  exact x_iretW (pc := 98) X V hr (by omega) (by omega) dX0_law_98
set_option maxHeartbeats 400000 in
set_option maxRecDepth 100000 in
theorem zX0_law_b70 {nf : Nat} {dA : Nat → ClassId} {T : xT} {N : xT} {Z : Nat} {S : Nat} {I : xI} {L : xL} {R : xR}  {x0 : Nat} {x2 : Nat} {z0 : Nat} {z1 : Nat} {ro : Int32} {To : xT} {No : xT} {Zo : Nat} {So : Nat} {Io : xI} {Ro : xR}  (hf : fX0_law_b70 nf (sv dA) T N Z S I L R x0 x2 z0 z1 = some (ro, To, No, Zo, So, Io, Ro)) : Z ≤ Zo ∧ S ≤ So := by
  unfold fX0_law_b70 at hf
  replace hf := tg_s hf; obtain ⟨ht1, hf⟩ := hf
  replace hf := bs hf; obtain ⟨a2, ha2, hf⟩ := hf
  replace hf := bs hf; obtain ⟨R3, hk_4, hf⟩ := hf
  replace hf := tg_s hf; obtain ⟨ht13, hf⟩ := hf
  replace hf := b7s hf; obtain ⟨r5, T6, N7, Z8, S9, I10, R11, hk_12, hf⟩ := hf
  have hm_hk_12 := zJ2_add hk_12
  have hm := zX0_law_b81 hf
  exact ⟨by omega, by omega⟩
set_option maxHeartbeats 400000 in
set_option maxRecDepth 100000 in
theorem wX0_law_b70 {nf : Nat} {kc ks : Nat} {cells slots : Nat} {p : Program} {l : Launch} {e : Env} {s : State} {m : MethodId} {args : Array Value} {below : List Frame} {meth : Method} {c : Code} {D : va_G} {dA : Nat → ClassId} {s0 : Nat} {T : xT} {N : xT} {Z : Nat} {S : Nat} {I : xI} {L : xL} {R : xR} {H : Heap} {locs : List Loc} {ls : Array Slot}  {x0 : Nat} {x2 : Nat} {z0 : Nat} {z1 : Nat} {ro : Int32} {To : xT} {No : xT} {Zo : Nat} {So : Nat} {Io : xI} {Ro : xR} (X : Cx D dA s0 p m c cX0_law 3 s args RX0 meth) (hr : meth.sig.returnType = (some .int))   (hf : fX0_law_b70 nf (sv dA) T N Z S I L R x0 x2 z0 z1 = some (ro, To, No, Zo, So, Io, Ro)) (V : Iv D dA s0 s T N Z I L R H locs) (hl : lv_has ls 3 [(0, .ref x0), (2, .ref x2)]) (hB : cells + (Zo - Z) ≤ kc ∧ slots + (So - S) ≤ ks) : W p l e { frames := 1492, cells := kc, slots := ks, locals := 31958 } s m args below meth c H locs cells slots (MQ below (xQ D dA s0 (some (.int ro)) To No Zo Io L Ro) args s kc ks (fun q => s0 ≤ q)) (F0 m 70 ls [.ref z1, .ref z0]) := by
  have hx := X.1.1
  have hb := X.1.2.1
  unfold fX0_law_b70 at hf
  refine lv_dup (pc := 70) hx hb dX0_law_70 rfl ?_
  refine lv_aload_n (pc := 71) hx hb dX0_law_71 rfl (lv_at hl 1 rfl) ?_
  replace hf := tg_s hf; obtain ⟨ht1, hf⟩ := hf
  replace hf := bs hf; obtain ⟨a2, ha2, hf⟩ := hf
  refine x_getN (pc := 72) X V okX7 ht1 7 (by decide) q740 (v := va_rf (R x2 7)) rfl dX0_law_72 ?_
  refine x_topr ha2 ?_
  replace hf := bs hf; obtain ⟨R3, hk_4, hf⟩ := hf
  refine x_callI0 (pc := 75) (As := [.ref a2]) (rest := [.ref z1, .ref z0]) X V (mX19_init l D dA s0 hk_4) q1190 q1191 q152 q1192 rfl hsX19_init ⟨Nat.le_of_ble_eq_true rfl, Nat.le_of_ble_eq_true rfl⟩ rfl hl.1 rfl (Nat.le_of_ble_eq_true rfl) dX0_law_75 ⟨by show cells ≤ kc; omega, by show slots ≤ ks; omega⟩ (fun H locs V => W.eq (g2 := F0 m 78 ls [.ref z1, .ref z0]) rfl ?_)
  replace hf := tg_s hf; obtain ⟨ht13, hf⟩ := hf
  replace hf := b7s hf; obtain ⟨r5, T6, N7, Z8, S9, I10, R11, hk_12, hf⟩ := hf
  have hm_hk_12 := zJ2_add hk_12
  have hm := zX0_law_b81 hf
  refine x_callV (pc := 78) (As := [.ref z1]) (rest := []) X V (mJ2_add l D dA s0 (kc := Z8 - Z) (ks := S9 - S) (Nat.le_refl _) (Nat.le_refl _) hk_12) okJ2 ht13 q1198 q1114 q1115 q124 q1116 ⟨rfl, hsJ2_add⟩ ⟨Nat.le_of_ble_eq_true rfl, Nat.le_of_ble_eq_true rfl⟩ rfl hl.1 rfl (Nat.le_of_ble_eq_true rfl) dX0_law_78 ⟨by show _ ≤ kc; omega, by show _ ≤ ks; omega⟩ (fun H locs V => W.eq (g2 := F0 m 81 ls [.int r5]) rfl ?_)
  exact wX0_law_b81 X hr hf V (lv_sub hl [0] rfl) ⟨by omega, by omega⟩
set_option maxHeartbeats 400000 in
set_option maxRecDepth 100000 in
theorem zX0_law_b50 {nf : Nat} {dA : Nat → ClassId} {T : xT} {N : xT} {Z : Nat} {S : Nat} {I : xI} {L : xL} {R : xR}  {x0 : Nat} {x2 : Nat} {z0 : Int32} {ro : Int32} {To : xT} {No : xT} {Zo : Nat} {So : Nat} {Io : xI} {Ro : xR}  (hf : fX0_law_b50 nf (sv dA) T N Z S I L R x0 x2 z0 = some (ro, To, No, Zo, So, Io, Ro)) : Z ≤ Zo ∧ S ≤ So := by
  unfold fX0_law_b50 at hf
  rcases (Decidable.em (z0 = (ii 0))).symm with c1 | c1
  · replace hf := if_f hf c1
    replace hf := tg_s hf; obtain ⟨ht2, hf⟩ := hf
    replace hf := bs hf; obtain ⟨a3, ha3, hf⟩ := hf
    replace hf := tg_s hf; obtain ⟨ht4, hf⟩ := hf
    replace hf := bs hf; obtain ⟨a5, ha5, hf⟩ := hf
    replace hf := nm_s hf; obtain ⟨T6, hT6, hf⟩ := hf
    replace hf := nm_s hf; obtain ⟨Z7, hZ7, hf⟩ := hf
    replace hf := nm_s hf; obtain ⟨S8, hS8, hf⟩ := hf
    have hm := zX0_law_b70 hf
    exact ⟨by omega, by omega⟩
  · replace hf := if_t hf c1
    replace hf := tg_s hf; obtain ⟨ht12, hf⟩ := hf
    replace hf := b2s hf; obtain ⟨r9, I10, hk_11, hf⟩ := hf
    cases hf
    exact ⟨Nat.le_refl _, Nat.le_refl _⟩
set_option maxHeartbeats 400000 in
set_option maxRecDepth 100000 in
theorem wX0_law_b50 {nf : Nat} {kc ks : Nat} {cells slots : Nat} {p : Program} {l : Launch} {e : Env} {s : State} {m : MethodId} {args : Array Value} {below : List Frame} {meth : Method} {c : Code} {D : va_G} {dA : Nat → ClassId} {s0 : Nat} {T : xT} {N : xT} {Z : Nat} {S : Nat} {I : xI} {L : xL} {R : xR} {H : Heap} {locs : List Loc} {ls : Array Slot}  {x0 : Nat} {x2 : Nat} {z0 : Int32} {ro : Int32} {To : xT} {No : xT} {Zo : Nat} {So : Nat} {Io : xI} {Ro : xR} (X : Cx D dA s0 p m c cX0_law 3 s args RX0 meth) (hr : meth.sig.returnType = (some .int))   (hf : fX0_law_b50 nf (sv dA) T N Z S I L R x0 x2 z0 = some (ro, To, No, Zo, So, Io, Ro)) (V : Iv D dA s0 s T N Z I L R H locs) (hl : lv_has ls 3 [(0, .ref x0), (2, .ref x2)]) (hB : cells + (Zo - Z) ≤ kc ∧ slots + (So - S) ≤ ks) : W p l e { frames := 1492, cells := kc, slots := ks, locals := 31958 } s m args below meth c H locs cells slots (MQ below (xQ D dA s0 (some (.int ro)) To No Zo Io L Ro) args s kc ks (fun q => s0 ≤ q)) (F0 m 50 ls [.int z0]) := by
  have hx := X.1.1
  have hb := X.1.2.1
  unfold fX0_law_b50 at hf
  refine lv_if_ne (pc := 50) (tgt := 60) hx hb dX0_law_50 (by decide) (fun c1 => ?_) (fun c1 => ?_)
  · replace hf := if_f hf c1
    refine lv_aload_n (pc := 60) hx hb dX0_law_60 rfl (lv_at hl 0 rfl) ?_
    replace hf := tg_s hf; obtain ⟨ht2, hf⟩ := hf
    replace hf := bs hf; obtain ⟨a3, ha3, hf⟩ := hf
    refine x_get (pc := 61) X V okX0 ht2 2 (by decide) q362 (v := va_rf (R x0 2)) rfl dX0_law_61 ?_
    refine x_topr ha3 ?_
    replace hf := tg_s hf; obtain ⟨ht4, hf⟩ := hf
    replace hf := bs hf; obtain ⟨a5, ha5, hf⟩ := hf
    refine x_getN (pc := 64) X V okX1 ht4 7 (by decide) q236 (v := va_rf (R a3 7)) rfl dX0_law_64 ?_
    refine x_topr ha5 ?_
    replace hf := nm_s hf; obtain ⟨T6, hT6, hf⟩ := hf
    replace hf := nm_s hf; obtain ⟨Z7, hZ7, hf⟩ := hf
    replace hf := nm_s hf; obtain ⟨S8, hS8, hf⟩ := hf
    have hm := zX0_law_b70 hf
    refine x_new (pc := 67) X V okX19 hT6 hZ7 q616 q1189 q152 (by show _ ≤ kc; omega) (by show _ ≤ ks; omega) dX0_law_67 (fun H V => ?_)
    exact wX0_law_b70 X hr hf V (lv_sub hl [0, 1] rfl) ⟨by omega, by omega⟩
  · replace hf := if_t hf c1
    refine lv_aload_n (pc := 53) hx hb dX0_law_53 rfl (lv_at hl 0 rfl) ?_
    refine lv_bipush (pc := 54) (v := (-6 : Int32)) hx hb dX0_law_54 (by decide) ?_
    replace hf := tg_s hf; obtain ⟨ht12, hf⟩ := hf
    replace hf := b2s hf; obtain ⟨r9, I10, hk_11, hf⟩ := hf
    refine x_callV0 (pc := 56) (As := [.int (-6 : Int32)]) (rest := []) X V (mX0_refuse l D dA s0 hk_11) okX0 ht12 q452 q454 qs1 q119 q455 ⟨rfl, hsX0_refuse⟩ ⟨Nat.le_of_ble_eq_true rfl, Nat.le_of_ble_eq_true rfl⟩ rfl hl.1 rfl (Nat.le_of_ble_eq_true rfl) dX0_law_56 ⟨by show cells ≤ kc; omega, by show slots ≤ ks; omega⟩ (fun H locs V => W.eq (g2 := F0 m 59 ls [.int r9]) rfl ?_)
    cases hf
    exact x_iretW (pc := 59) X V hr (by omega) (by omega) dX0_law_59
set_option maxHeartbeats 400000 in
set_option maxRecDepth 100000 in
theorem zX0_law_b44 {nf : Nat} {dA : Nat → ClassId} {T : xT} {N : xT} {Z : Nat} {S : Nat} {I : xI} {L : xL} {R : xR}  {x0 : Nat} {z0 : Nat} {ro : Int32} {To : xT} {No : xT} {Zo : Nat} {So : Nat} {Io : xI} {Ro : xR}  (hf : fX0_law_b44 nf (sv dA) T N Z S I L R x0 z0 = some (ro, To, No, Zo, So, Io, Ro)) : Z ≤ Zo ∧ S ≤ So := by
  unfold fX0_law_b44 at hf
  replace hf := tg_s hf; obtain ⟨ht9, hf⟩ := hf
  replace hf := b7s hf; obtain ⟨r1, T2, N3, Z4, S5, I6, R7, hk_8, hf⟩ := hf
  have hm_hk_8 := zX0_reads_ndX7 hk_8
  have hm := zX0_law_b50 hf
  exact ⟨by omega, by omega⟩
set_option maxHeartbeats 400000 in
set_option maxRecDepth 100000 in
theorem wX0_law_b44 {nf : Nat} {kc ks : Nat} {cells slots : Nat} {p : Program} {l : Launch} {e : Env} {s : State} {m : MethodId} {args : Array Value} {below : List Frame} {meth : Method} {c : Code} {D : va_G} {dA : Nat → ClassId} {s0 : Nat} {T : xT} {N : xT} {Z : Nat} {S : Nat} {I : xI} {L : xL} {R : xR} {H : Heap} {locs : List Loc} {ls : Array Slot}  {x0 : Nat} {z0 : Nat} {ro : Int32} {To : xT} {No : xT} {Zo : Nat} {So : Nat} {Io : xI} {Ro : xR} (X : Cx D dA s0 p m c cX0_law 3 s args RX0 meth) (hr : meth.sig.returnType = (some .int))   (hf : fX0_law_b44 nf (sv dA) T N Z S I L R x0 z0 = some (ro, To, No, Zo, So, Io, Ro)) (V : Iv D dA s0 s T N Z I L R H locs) (hl : lv_has ls 3 [(0, .ref x0)]) (hB : cells + (Zo - Z) ≤ kc ∧ slots + (So - S) ≤ ks) : W p l e { frames := 1492, cells := kc, slots := ks, locals := 31958 } s m args below meth c H locs cells slots (MQ below (xQ D dA s0 (some (.int ro)) To No Zo Io L Ro) args s kc ks (fun q => s0 ≤ q)) (F0 m 44 ls [.ref z0]) := by
  have hx := X.1.1
  have hb := X.1.2.1
  unfold fX0_law_b44 at hf
  refine lv_astore_n (pc := 44) (lv' := [(2, .ref z0), (0, .ref x0)]) hx hb dX0_law_44 rfl hl (by decide) rfl (fun ls hl => ?_)
  refine lv_aload_n (pc := 45) hx hb dX0_law_45 rfl (lv_at hl 1 rfl) ?_
  refine lv_aload_n (pc := 46) hx hb dX0_law_46 rfl (lv_at hl 0 rfl) ?_
  replace hf := tg_s hf; obtain ⟨ht9, hf⟩ := hf
  replace hf := b7s hf; obtain ⟨r1, T2, N3, Z4, S5, I6, R7, hk_8, hf⟩ := hf
  have hm_hk_8 := zX0_reads_ndX7 hk_8
  have hm := zX0_law_b50 hf
  refine y_afterR (y_runVX (pc := 47) (As := [.ref z0]) (rest := []) X V (mX0_reads_ndX7 l D dA s0 (kc := Z4 - Z) (ks := S5 - S) (Nat.le_refl _) (Nat.le_refl _) hk_8) okX0 ht9 q765 q767 qs15 q119 q768 ⟨rfl, hsX0_reads_ndX7⟩ ⟨Nat.le_of_ble_eq_true rfl, Nat.le_of_ble_eq_true rfl⟩ rfl hl.1 rfl (Nat.le_of_ble_eq_true rfl) dX0_law_47 ⟨by show _ ≤ kc; omega, by show _ ≤ ks; omega⟩) V (fun H locs V => W.eq (g2 := F0 m 50 ls [.int r1]) rfl ?_)
  exact wX0_law_b50 X hr hf V (lv_sub hl [1, 0] rfl) ⟨by omega, by omega⟩
set_option maxHeartbeats 400000 in
set_option maxRecDepth 100000 in
theorem zX0_law_b35 {nf : Nat} {dA : Nat → ClassId} {T : xT} {N : xT} {Z : Nat} {S : Nat} {I : xI} {L : xL} {R : xR}  {x0 : Nat} {x1 : Int32} {z0 : Nat} {ro : Int32} {To : xT} {No : xT} {Zo : Nat} {So : Nat} {Io : xI} {Ro : xR}  (hf : fX0_law_b35 nf (sv dA) T N Z S I L R x0 x1 z0 = some (ro, To, No, Zo, So, Io, Ro)) : Z ≤ Zo ∧ S ≤ So := by
  unfold fX0_law_b35 at hf
  replace hf := tg_s hf; obtain ⟨ht1, hf⟩ := hf
  replace hf := bs hf; obtain ⟨a2, ha2, hf⟩ := hf
  replace hf := b6s hf; obtain ⟨T3, N4, Z5, S6, I7, R8, hk_9, hf⟩ := hf
  have hm_hk_9 := zX7_init hk_9
  have hm := zX0_law_b44 hf
  exact ⟨by omega, by omega⟩
set_option maxHeartbeats 400000 in
set_option maxRecDepth 100000 in
theorem wX0_law_b35 {nf : Nat} {kc ks : Nat} {cells slots : Nat} {p : Program} {l : Launch} {e : Env} {s : State} {m : MethodId} {args : Array Value} {below : List Frame} {meth : Method} {c : Code} {D : va_G} {dA : Nat → ClassId} {s0 : Nat} {T : xT} {N : xT} {Z : Nat} {S : Nat} {I : xI} {L : xL} {R : xR} {H : Heap} {locs : List Loc} {ls : Array Slot}  {x0 : Nat} {x1 : Int32} {z0 : Nat} {ro : Int32} {To : xT} {No : xT} {Zo : Nat} {So : Nat} {Io : xI} {Ro : xR} (X : Cx D dA s0 p m c cX0_law 3 s args RX0 meth) (hr : meth.sig.returnType = (some .int))   (hf : fX0_law_b35 nf (sv dA) T N Z S I L R x0 x1 z0 = some (ro, To, No, Zo, So, Io, Ro)) (V : Iv D dA s0 s T N Z I L R H locs) (hl : lv_has ls 3 [(0, .ref x0), (1, .int x1)]) (hB : cells + (Zo - Z) ≤ kc ∧ slots + (So - S) ≤ ks) : W p l e { frames := 1492, cells := kc, slots := ks, locals := 31958 } s m args below meth c H locs cells slots (MQ below (xQ D dA s0 (some (.int ro)) To No Zo Io L Ro) args s kc ks (fun q => s0 ≤ q)) (F0 m 35 ls [.ref z0]) := by
  have hx := X.1.1
  have hb := X.1.2.1
  unfold fX0_law_b35 at hf
  refine lv_dup (pc := 35) hx hb dX0_law_35 rfl ?_
  refine lv_aload_n (pc := 36) hx hb dX0_law_36 rfl (lv_at hl 0 rfl) ?_
  replace hf := tg_s hf; obtain ⟨ht1, hf⟩ := hf
  replace hf := bs hf; obtain ⟨a2, ha2, hf⟩ := hf
  refine x_get (pc := 37) X V okX0 ht1 10 (by decide) q370 (v := va_rf (R x0 10)) rfl dX0_law_37 ?_
  refine x_topr ha2 ?_
  refine lv_iload_n (pc := 40) hx hb dX0_law_40 rfl (lv_at hl 1 rfl) ?_
  replace hf := b6s hf; obtain ⟨T3, N4, Z5, S6, I7, R8, hk_9, hf⟩ := hf
  have hm_hk_9 := zX7_init hk_9
  have hm := zX0_law_b44 hf
  refine x_callI (pc := 41) (As := [.ref a2, .int x1]) (rest := [.ref z0]) X V (mX7_init l D dA s0 (kc := Z5 - Z) (ks := S6 - S) (Nat.le_refl _) (Nat.le_refl _) hk_9) q730 q731 q134 q732 rfl hsX7_init ⟨Nat.le_of_ble_eq_true rfl, Nat.le_of_ble_eq_true rfl⟩ rfl hl.1 rfl (Nat.le_of_ble_eq_true rfl) dX0_law_41 ⟨by show _ ≤ kc; omega, by show _ ≤ ks; omega⟩ (fun H locs V => W.eq (g2 := F0 m 44 ls [.ref z0]) rfl ?_)
  exact wX0_law_b44 X hr hf V (lv_sub hl [0] rfl) ⟨by omega, by omega⟩
set_option maxHeartbeats 400000 in
set_option maxRecDepth 100000 in
theorem zX0_law {nf : Nat} {dA : Nat → ClassId} {T : xT} {N : xT} {Z : Nat} {S : Nat} {I : xI} {L : xL} {R : xR} {x0 : Nat} {ro : Int32} {To : xT} {No : xT} {Zo : Nat} {So : Nat} {Io : xI} {Ro : xR} (hf : fX0_law nf (sv dA) T N Z S I L R x0 = some (ro, To, No, Zo, So, Io, Ro)) : Z ≤ Zo ∧ S ≤ So := by
  unfold fX0_law at hf
  replace hf := tg_s hf; obtain ⟨ht1, hf⟩ := hf
  replace hf := nm_s hf; obtain ⟨u2, hu2, hf⟩ := hf
  replace hf := nm_s hf; obtain ⟨I3, hI3, hf⟩ := hf
  replace hf := bs hf; obtain ⟨a4, ha4, hf⟩ := hf
  replace hf := tg_s hf; obtain ⟨ht5, hf⟩ := hf
  replace hf := bs hf; obtain ⟨a6, ha6, hf⟩ := hf
  replace hf := tg_s hf; obtain ⟨ht9, hf⟩ := hf
  replace hf := bs hf; obtain ⟨r7, hk_8, hf⟩ := hf
  rcases (Decidable.em (r7 = (ii 6))).symm with c10 | c10
  · replace hf := if_f hf c10
    replace hf := nm_s hf; obtain ⟨T11, hT11, hf⟩ := hf
    replace hf := nm_s hf; obtain ⟨Z12, hZ12, hf⟩ := hf
    replace hf := nm_s hf; obtain ⟨S13, hS13, hf⟩ := hf
    have hm := zX0_law_b35 hf
    exact ⟨by omega, by omega⟩
  · replace hf := if_t hf c10
    replace hf := b2s hf; obtain ⟨r14, I15, hk_16, hf⟩ := hf
    cases hf
    exact ⟨Nat.le_refl _, Nat.le_refl _⟩
set_option maxHeartbeats 400000 in
set_option maxRecDepth 100000 in
theorem wX0_law_e {nf : Nat} {kc ks : Nat} {cells slots : Nat} {p : Program} {l : Launch} {e : Env} {s : State} {m : MethodId} {args : Array Value} {below : List Frame} {meth : Method} {c : Code} {D : va_G} {dA : Nat → ClassId} {s0 : Nat} {T : xT} {N : xT} {Z : Nat} {S : Nat} {I : xI} {L : xL} {R : xR} {H : Heap} {locs : List Loc} {ls : Array Slot} {x0 : Nat} {ro : Int32} {To : xT} {No : xT} {Zo : Nat} {So : Nat} {Io : xI} {Ro : xR} (X : Cx D dA s0 p m c cX0_law 3 s args RX0 meth) (hr : meth.sig.returnType = (some .int)) (hf : fX0_law nf (sv dA) T N Z S I L R x0 = some (ro, To, No, Zo, So, Io, Ro)) (V : Iv D dA s0 s T N Z I L R H locs) (hl : lv_has ls 3 [(0, .ref x0)]) (hB : cells + (Zo - Z) ≤ kc ∧ slots + (So - S) ≤ ks) : W p l e { frames := 1492, cells := kc, slots := ks, locals := 31958 } s m args below meth c H locs cells slots (MQ below (xQ D dA s0 (some (.int ro)) To No Zo Io L Ro) args s kc ks (fun q => s0 ≤ q)) (F0 m 0 ls []) := by
  have hx := X.1.1
  have hb := X.1.2.1
  unfold fX0_law at hf
  refine lv_aload_n (pc := 0) hx hb dX0_law_0 rfl (lv_at hl 0 rfl) ?_
  replace hf := tg_s hf; obtain ⟨ht1, hf⟩ := hf
  refine x_get (pc := 1) X V okX0 ht1 11 (by decide) q371 (v := .int (I x0 11)) rfl dX0_law_1 ?_
  replace hf := nm_s hf; obtain ⟨u2, hu2, hf⟩ := hf
  refine x_topi hu2 ?_
  refine lv_istore_n (pc := 4) (lv' := [(1, .int u2), (0, .ref x0)]) hx hb dX0_law_4 rfl hl (by decide) rfl (fun ls hl => ?_)
  refine lv_aload_n (pc := 5) hx hb dX0_law_5 rfl (lv_at hl 1 rfl) ?_
  refine lv_iconst (pc := 6) (v := (ii 0)) hx hb dX0_law_6 (by decide) ?_
  replace hf := nm_s hf; obtain ⟨I3, hI3, hf⟩ := hf
  refine x_puti (pc := 7) X V okX0 (by decide) ht1 11 (by decide) q371 (Or.inl rfl) hI3 (fun _ _ _ => rfl) rfl rfl dX0_law_7 (fun H locs V => ?_)
  refine lv_aload_n (pc := 10) hx hb dX0_law_10 rfl (lv_at hl 1 rfl) ?_
  replace hf := bs hf; obtain ⟨a4, ha4, hf⟩ := hf
  refine x_get (pc := 11) X V okX0 ht1 2 (by decide) q362 (v := va_rf (R x0 2)) rfl dX0_law_11 ?_
  refine x_topr ha4 ?_
  replace hf := tg_s hf; obtain ⟨ht5, hf⟩ := hf
  replace hf := bs hf; obtain ⟨a6, ha6, hf⟩ := hf
  refine x_getN (pc := 14) X V okX1 ht5 7 (by decide) q236 (v := va_rf (R a4 7)) rfl dX0_law_14 ?_
  refine x_topr ha6 ?_
  replace hf := tg_s hf; obtain ⟨ht9, hf⟩ := hf
  replace hf := bs hf; obtain ⟨r7, hk_8, hf⟩ := hf
  refine x_callV0 (pc := 17) (As := []) (rest := []) X V (mJ2_size l D dA s0 hk_8) okJ2 ht9 q727 q623 q624 q124 q625 ⟨rfl, hsJ2_size⟩ ⟨Nat.le_of_ble_eq_true rfl, Nat.le_of_ble_eq_true rfl⟩ rfl hl.1 rfl (Nat.le_of_ble_eq_true rfl) dX0_law_17 ⟨by show cells ≤ kc; omega, by show slots ≤ ks; omega⟩ (fun H locs V => W.eq (g2 := F0 m 20 ls [.int r7]) rfl ?_)
  refine lv_bipush (pc := 20) (v := (ii 6)) hx hb dX0_law_20 (by decide) ?_
  refine lv_icmp_ne (pc := 22) (tgt := 32) hx hb dX0_law_22 (by decide) (fun c10 => ?_) (fun c10 => ?_)
  · replace hf := if_f hf c10
    replace hf := nm_s hf; obtain ⟨T11, hT11, hf⟩ := hf
    replace hf := nm_s hf; obtain ⟨Z12, hZ12, hf⟩ := hf
    replace hf := nm_s hf; obtain ⟨S13, hS13, hf⟩ := hf
    have hm := zX0_law_b35 hf
    refine x_new (pc := 32) X V okX7 hT11 hZ12 q728 q729 q134 (by show _ ≤ kc; omega) (by show _ ≤ ks; omega) dX0_law_32 (fun H V => ?_)
    exact wX0_law_b35 X hr hf V (lv_sub hl [1, 0] rfl) ⟨by omega, by omega⟩
  · replace hf := if_t hf c10
    refine lv_aload_n (pc := 25) hx hb dX0_law_25 rfl (lv_at hl 1 rfl) ?_
    refine lv_bipush (pc := 26) (v := (-5 : Int32)) hx hb dX0_law_26 (by decide) ?_
    replace hf := b2s hf; obtain ⟨r14, I15, hk_16, hf⟩ := hf
    refine x_callV0 (pc := 28) (As := [.int (-5 : Int32)]) (rest := []) X V (mX0_refuse l D dA s0 hk_16) okX0 ht1 q452 q454 qs1 q119 q455 ⟨rfl, hsX0_refuse⟩ ⟨Nat.le_of_ble_eq_true rfl, Nat.le_of_ble_eq_true rfl⟩ rfl hl.1 rfl (Nat.le_of_ble_eq_true rfl) dX0_law_28 ⟨by show cells ≤ kc; omega, by show slots ≤ ks; omega⟩ (fun H locs V => W.eq (g2 := F0 m 31 ls [.int r14]) rfl ?_)
    cases hf
    exact x_iretW (pc := 31) X V hr (by omega) (by omega) dX0_law_31
theorem mX0_law {nf : Nat} (l : Launch) (D : va_G) (dA : Nat → ClassId) (s0 : Nat) {kc ks : Nat} {T : xT} {N : xT} {Z : Nat} {S : Nat} {I : xI} {L : xL} {R : xR} {x0 : Nat} {ro : Int32} {To : xT} {No : xT} {Zo : Nat} {So : Nat} {Io : xI} {Ro : xR} (hZ : Zo - Z ≤ kc) (hS : So - S ≤ ks) (hf : fX0_law nf (sv dA) T N Z S I L R x0 = some (ro, To, No, Zo, So, Io, Ro)) : XMet l D dA s0 yX0_law (ws_ yX0_law cX0_law 3 ((some .int))) (1492) (31958) [.ref x0] T N Z I L R (some (.int ro)) To No Zo Io L Ro kc ks :=
  x_start (own := RX0) rfl (by decide) (Nat.le_of_ble_eq_true rfl) (lv := [(0, .ref x0)]) rfl (fun p e s m below meth c ls X hr hini V hl => wX0_law_e X hr hf V hl ⟨by omega, by omega⟩)
set_option maxHeartbeats 400000 in
set_option maxRecDepth 100000 in
theorem wX0_fault_e {p : Program} {l : Launch} {e : Env} {s : State} {m : MethodId} {args : Array Value} {below : List Frame} {meth : Method} {c : Code} {D : va_G} {dA : Nat → ClassId} {s0 : Nat} {T : xT} {N : xT} {Z : Nat} {I : xI} {L : xL} {R : xR} {H : Heap} {locs : List Loc} {ls : Array Slot} {x0 : Nat} {ro : Int32} (X : Cx D dA s0 p m c cX0_fault 1 s args RX0 meth) (hr : meth.sig.returnType = (some .int)) (hf : fX0_fault T I x0 = some ro) (V : Iv D dA s0 s T N Z I L R H locs) (hl : lv_has ls 1 [(0, .ref x0)]) : W p l e { frames := 0, cells := 0, slots := 0, locals := 0 } s m args below meth c H locs 0 0 (MQ below (xQ D dA s0 (some (.int ro)) T N Z I L R) args s 0 0 (fun q => s0 ≤ q)) (F0 m 0 ls []) := by
  have hx := X.1.1
  have hb := X.1.2.1
  unfold fX0_fault at hf
  refine lv_aload_n (pc := 0) hx hb dX0_fault_0 rfl (lv_at hl 0 rfl) ?_
  replace hf := tg_s hf; obtain ⟨ht1, hf⟩ := hf
  refine x_get (pc := 1) X V okX0 ht1 12 (by decide) q372 (v := .int (I x0 12)) rfl dX0_fault_1 ?_
  cases hf
  exact x_iret (pc := 4) X V hr dX0_fault_4
theorem mX0_fault (l : Launch) (D : va_G) (dA : Nat → ClassId) (s0 : Nat) {T : xT} {N : xT} {Z : Nat} {I : xI} {L : xL} {R : xR} {x0 : Nat} {ro : Int32} (hf : fX0_fault T I x0 = some ro) : XMet l D dA s0 yX0_fault (ws_ yX0_fault cX0_fault 1 ((some .int))) (0) (0) [.ref x0] T N Z I L R (some (.int ro)) T N Z I L R 0 0 :=
  x_start (own := RX0) rfl (by decide) (Nat.le_of_ble_eq_true rfl) (lv := [(0, .ref x0)]) rfl (fun p e s m below meth c ls X hr hini V hl => wX0_fault_e X hr hf V hl)
set_option maxHeartbeats 400000 in
set_option maxRecDepth 100000 in
theorem wX0_stopped_e {p : Program} {l : Launch} {e : Env} {s : State} {m : MethodId} {args : Array Value} {below : List Frame} {meth : Method} {c : Code} {D : va_G} {dA : Nat → ClassId} {s0 : Nat} {T : xT} {N : xT} {Z : Nat} {I : xI} {L : xL} {R : xR} {H : Heap} {locs : List Loc} {ls : Array Slot} {x0 : Nat} {ro : Int32} (X : Cx D dA s0 p m c cX0_stopped 1 s args RX0 meth) (hr : meth.sig.returnType = (some .int)) (hf : fX0_stopped T I x0 = some ro) (V : Iv D dA s0 s T N Z I L R H locs) (hl : lv_has ls 1 [(0, .ref x0)]) : W p l e { frames := 0, cells := 0, slots := 0, locals := 0 } s m args below meth c H locs 0 0 (MQ below (xQ D dA s0 (some (.int ro)) T N Z I L R) args s 0 0 (fun q => s0 ≤ q)) (F0 m 0 ls []) := by
  have hx := X.1.1
  have hb := X.1.2.1
  unfold fX0_stopped at hf
  refine lv_aload_n (pc := 0) hx hb dX0_stopped_0 rfl (lv_at hl 0 rfl) ?_
  replace hf := tg_s hf; obtain ⟨ht1, hf⟩ := hf
  refine x_get (pc := 1) X V okX0 ht1 14 (by decide) q374 (v := .int (I x0 14)) rfl dX0_stopped_1 ?_
  cases hf
  exact x_iret (pc := 4) X V hr dX0_stopped_4
theorem mX0_stopped (l : Launch) (D : va_G) (dA : Nat → ClassId) (s0 : Nat) {T : xT} {N : xT} {Z : Nat} {I : xI} {L : xL} {R : xR} {x0 : Nat} {ro : Int32} (hf : fX0_stopped T I x0 = some ro) : XMet l D dA s0 yX0_stopped (ws_ yX0_stopped cX0_stopped 1 ((some .int))) (0) (0) [.ref x0] T N Z I L R (some (.int ro)) T N Z I L R 0 0 :=
  x_start (own := RX0) rfl (by decide) (Nat.le_of_ble_eq_true rfl) (lv := [(0, .ref x0)]) rfl (fun p e s m below meth c ls X hr hini V hl => wX0_stopped_e X hr hf V hl)
set_option maxHeartbeats 400000 in
set_option maxRecDepth 100000 in
theorem wX0_isLaw_e {p : Program} {l : Launch} {e : Env} {s : State} {m : MethodId} {args : Array Value} {below : List Frame} {meth : Method} {c : Code} {D : va_G} {dA : Nat → ClassId} {s0 : Nat} {T : xT} {N : xT} {Z : Nat} {I : xI} {L : xL} {R : xR} {H : Heap} {locs : List Loc} {ls : Array Slot} {x0 : Nat} {x1 : Int32} {ro : Int32} (X : Cx D dA s0 p m c cX0_isLaw 2 s args RX0 meth) (hr : meth.sig.returnType = (some .boolean)) (hf : fX0_isLaw T I R x0 x1 = some ro) (V : Iv D dA s0 s T N Z I L R H locs) (hl : lv_has ls 2 [(0, .ref x0), (1, .int x1)]) : W p l e { frames := 1, cells := 0, slots := 0, locals := 22 } s m args below meth c H locs 0 0 (MQ below (xQ D dA s0 (some (.int ro)) T N Z I L R) args s 0 0 (fun q => s0 ≤ q)) (F0 m 0 ls []) := by
  have hx := X.1.1
  have hb := X.1.2.1
  unfold fX0_isLaw at hf
  refine lv_iload_n (pc := 0) hx hb dX0_isLaw_0 rfl (lv_at hl 1 rfl) ?_
  refine lv_iconst (pc := 1) (v := (-1 : Int32)) hx hb dX0_isLaw_1 (by decide) ?_
  refine lv_aload_n (pc := 2) hx hb dX0_isLaw_2 rfl (lv_at hl 0 rfl) ?_
  replace hf := tg_s hf; obtain ⟨ht1, hf⟩ := hf
  replace hf := bs hf; obtain ⟨a2, ha2, hf⟩ := hf
  refine x_get (pc := 3) X V okX0 ht1 2 (by decide) q362 (v := va_rf (R x0 2)) rfl dX0_isLaw_3 ?_
  refine x_topr ha2 ?_
  replace hf := tg_s hf; obtain ⟨ht3, hf⟩ := hf
  replace hf := bs hf; obtain ⟨a4, ha4, hf⟩ := hf
  refine x_getN (pc := 6) X V okX1 ht3 7 (by decide) q236 (v := va_rf (R a2 7)) rfl dX0_isLaw_6 ?_
  refine x_topr ha4 ?_
  replace hf := tg_s hf; obtain ⟨ht7, hf⟩ := hf
  replace hf := bs hf; obtain ⟨r5, hk_6, hf⟩ := hf
  refine x_callV0 (pc := 9) (As := []) (rest := [.int (-1 : Int32), .int x1]) X V (mJ2_size l D dA s0 hk_6) okJ2 ht7 q727 q623 q624 q124 q625 ⟨rfl, hsJ2_size⟩ ⟨Nat.le_of_ble_eq_true rfl, Nat.le_of_ble_eq_true rfl⟩ rfl hl.1 rfl (Nat.le_of_ble_eq_true rfl) dX0_isLaw_9 ⟨Nat.zero_le _, Nat.zero_le _⟩ (fun H locs V => W.eq (g2 := F0 m 12 ls [.int r5, .int (-1 : Int32), .int x1]) rfl ?_)
  refine lv_iconst (pc := 12) (v := (ii 1)) hx hb dX0_isLaw_12 (by decide) ?_
  refine lv_isub (pc := 13) hx hb dX0_isLaw_13 ?_
  replace hf := bs hf; obtain ⟨r8, hk_9, hf⟩ := hf
  refine x_callS0 (pc := 14) (As := [.int x1, .int (-1 : Int32), .int (r5 - (ii 1))]) (rest := []) X V (mX0_in l D dA s0 hk_9) q449 q450 q119 q451 hsX0_in ⟨Nat.le_of_ble_eq_true rfl, Nat.le_of_ble_eq_true rfl⟩ rfl hl.1 rfl (Nat.le_of_ble_eq_true rfl) dX0_isLaw_14 ⟨Nat.zero_le _, Nat.zero_le _⟩ (fun H locs V => W.eq (g2 := F0 m 17 ls [.int r8]) rfl ?_)
  replace hf := chk_s hf; obtain ⟨hz10, hf⟩ := hf
  cases hf
  exact x_zret (pc := 17) X V hr hz10 dX0_isLaw_17
theorem mX0_isLaw (l : Launch) (D : va_G) (dA : Nat → ClassId) (s0 : Nat) {T : xT} {N : xT} {Z : Nat} {I : xI} {L : xL} {R : xR} {x0 : Nat} {x1 : Int32} {ro : Int32} (hf : fX0_isLaw T I R x0 x1 = some ro) : XMet l D dA s0 yX0_isLaw (ws_ yX0_isLaw cX0_isLaw 2 ((some .boolean))) (1) (22) [.ref x0, .int x1] T N Z I L R (some (.int ro)) T N Z I L R 0 0 :=
  x_start (own := RX0) rfl (by decide) (Nat.le_of_ble_eq_true rfl) (lv := [(0, .ref x0), (1, .int x1)]) rfl (fun p e s m below meth c ls X hr hini V hl => wX0_isLaw_e X hr hf V hl)
set_option maxHeartbeats 400000 in
set_option maxRecDepth 100000 in
theorem wX0_force_e {p : Program} {l : Launch} {e : Env} {s : State} {m : MethodId} {args : Array Value} {below : List Frame} {meth : Method} {c : Code} {D : va_G} {dA : Nat → ClassId} {s0 : Nat} {T : xT} {N : xT} {Z : Nat} {I : xI} {L : xL} {R : xR} {H : Heap} {locs : List Loc} {ls : Array Slot} {x0 : Nat} {x1 : Int32} {ro : Int32} {Io : xI} (X : Cx D dA s0 p m c cX0_force 3 s args RX0 meth) (hr : meth.sig.returnType = (some .int)) (hf : fX0_force T N I R x0 x1 = some (ro, Io)) (V : Iv D dA s0 s T N Z I L R H locs) (hl : lv_has ls 3 [(0, .ref x0), (1, .int x1)]) : W p l e { frames := 2, cells := 0, slots := 0, locals := 43 } s m args below meth c H locs 0 0 (MQ below (xQ D dA s0 (some (.int ro)) T N Z Io L R) args s 0 0 (fun q => s0 ≤ q)) (F0 m 0 ls []) := by
  have hx := X.1.1
  have hb := X.1.2.1
  unfold fX0_force at hf
  refine lv_aload_n (pc := 0) hx hb dX0_force_0 rfl (lv_at hl 0 rfl) ?_
  refine lv_iload_n (pc := 1) hx hb dX0_force_1 rfl (lv_at hl 1 rfl) ?_
  replace hf := tg_s hf; obtain ⟨ht3, hf⟩ := hf
  replace hf := bs hf; obtain ⟨r1, hk_2, hf⟩ := hf
  refine x_callV0 (pc := 2) (As := [.int x1]) (rest := []) X V (mX0_isLaw l D dA s0 hk_2) okX0 ht3 q1211 q1213 qs18 q119 q1214 ⟨rfl, hsX0_isLaw⟩ ⟨Nat.le_of_ble_eq_true rfl, Nat.le_of_ble_eq_true rfl⟩ rfl hl.1 rfl (Nat.le_of_ble_eq_true rfl) dX0_force_2 ⟨Nat.zero_le _, Nat.zero_le _⟩ (fun H locs V => W.eq (g2 := F0 m 5 ls [.int r1]) rfl ?_)
  refine lv_if_ne (pc := 5) (tgt := 15) hx hb dX0_force_5 (by decide) (fun c4 => ?_) (fun c4 => ?_)
  · replace hf := if_f hf c4
    refine lv_aload_n (pc := 15) hx hb dX0_force_15 rfl (lv_at hl 0 rfl) ?_
    replace hf := bs hf; obtain ⟨a5, ha5, hf⟩ := hf
    refine x_get (pc := 16) X V okX0 ht3 2 (by decide) q362 (v := va_rf (R x0 2)) rfl dX0_force_16 ?_
    refine x_topr ha5 ?_
    replace hf := tg_s hf; obtain ⟨ht6, hf⟩ := hf
    refine x_getN (pc := 19) X V okX1 ht6 13 (by decide) q248 (v := .int (I a5 13)) rfl dX0_force_19 ?_
    replace hf := nm_s hf; obtain ⟨u7, hu7, hf⟩ := hf
    refine x_topi hu7 ?_
    refine lv_istore_n (pc := 22) (lv' := [(2, .int u7), (0, .ref x0), (1, .int x1)]) hx hb dX0_force_22 rfl hl (by decide) rfl (fun ls hl => ?_)
    refine lv_aload_n (pc := 23) hx hb dX0_force_23 rfl (lv_at hl 1 rfl) ?_
    refine x_get (pc := 24) X V okX0 ht3 2 (by decide) q362 (v := va_rf (R x0 2)) rfl dX0_force_24 ?_
    refine x_topr ha5 ?_
    refine lv_iload_n (pc := 27) hx hb dX0_force_27 rfl (lv_at hl 2 rfl) ?_
    replace hf := nm_s hf; obtain ⟨I8, hI8, hf⟩ := hf
    refine x_putNi (pc := 28) X V okX1 (by decide) ht6 13 (by decide) q248 rfl hI8 (fun _ _ _ => rfl) rfl rfl dX0_force_28 (fun H locs V => ?_)
    refine lv_aload_n (pc := 31) hx hb dX0_force_31 rfl (lv_at hl 1 rfl) ?_
    refine lv_iload_n (pc := 32) hx hb dX0_force_32 rfl (lv_at hl 0 rfl) ?_
    replace hf := b2s hf; obtain ⟨r9, I10, hk_11, hf⟩ := hf
    refine x_callV0 (pc := 33) (As := [.int u7]) (rest := []) X V (mX0_done l D dA s0 hk_11) okX0 ht3 q542 q544 qs3 q119 q545 ⟨rfl, hsX0_done⟩ ⟨Nat.le_of_ble_eq_true rfl, Nat.le_of_ble_eq_true rfl⟩ rfl hl.1 rfl (Nat.le_of_ble_eq_true rfl) dX0_force_33 ⟨Nat.zero_le _, Nat.zero_le _⟩ (fun H locs V => W.eq (g2 := F0 m 36 ls [.int r9]) rfl ?_)
    cases hf
    exact x_iret (pc := 36) X V hr dX0_force_36
  · replace hf := if_t hf c4
    refine lv_aload_n (pc := 8) hx hb dX0_force_8 rfl (lv_at hl 0 rfl) ?_
    refine lv_bipush (pc := 9) (v := (-2 : Int32)) hx hb dX0_force_9 (by decide) ?_
    replace hf := b2s hf; obtain ⟨r12, I13, hk_14, hf⟩ := hf
    refine x_callV0 (pc := 11) (As := [.int (-2 : Int32)]) (rest := []) X V (mX0_refuse l D dA s0 hk_14) okX0 ht3 q452 q454 qs1 q119 q455 ⟨rfl, hsX0_refuse⟩ ⟨Nat.le_of_ble_eq_true rfl, Nat.le_of_ble_eq_true rfl⟩ rfl hl.1 rfl (Nat.le_of_ble_eq_true rfl) dX0_force_11 ⟨Nat.zero_le _, Nat.zero_le _⟩ (fun H locs V => W.eq (g2 := F0 m 14 ls [.int r12]) rfl ?_)
    cases hf
    exact x_iret (pc := 14) X V hr dX0_force_14
theorem mX0_force (l : Launch) (D : va_G) (dA : Nat → ClassId) (s0 : Nat) {T : xT} {N : xT} {Z : Nat} {I : xI} {L : xL} {R : xR} {x0 : Nat} {x1 : Int32} {ro : Int32} {Io : xI} (hf : fX0_force T N I R x0 x1 = some (ro, Io)) : XMet l D dA s0 yX0_force (ws_ yX0_force cX0_force 3 ((some .int))) (2) (43) [.ref x0, .int x1] T N Z I L R (some (.int ro)) T N Z Io L R 0 0 :=
  x_start (own := RX0) rfl (by decide) (Nat.le_of_ble_eq_true rfl) (lv := [(0, .ref x0), (1, .int x1)]) rfl (fun p e s m below meth c ls X hr hini V hl => wX0_force_e X hr hf V hl)
set_option maxHeartbeats 400000 in
set_option maxRecDepth 100000 in
theorem wX0_keeps_b76 {nf : Nat} {p : Program} {l : Launch} {e : Env} {s : State} {m : MethodId} {args : Array Value} {below : List Frame} {meth : Method} {c : Code} {D : va_G} {dA : Nat → ClassId} {s0 : Nat} {T : xT} {N : xT} {Z : Nat} {I : xI} {L : xL} {R : xR} {H : Heap} {locs : List Loc} {ls : Array Slot}  {x0 : Nat} {x1 : Int32} {Io : xI} {Ro : xR} (X : Cx D dA s0 p m c cX0_keeps 4 s args RX0 meth) (hr : meth.sig.returnType = none)   (hf : fX0_keeps_b76 nf T N I R x0 x1 = some (Io, Ro)) (V : Iv D dA s0 s T N Z I L R H locs) (hl : lv_has ls 4 [(0, .ref x0), (1, .int x1)]) : W p l e { frames := 3, cells := 0, slots := 0, locals := 102 } s m args below meth c H locs 0 0 (MQ below (xQ D dA s0 none T N Z Io L Ro) args s 0 0 (fun q => s0 ≤ q)) (F0 m 76 ls []) := by
  have hx := X.1.1
  have hb := X.1.2.1
  unfold fX0_keeps_b76 at hf
  refine lv_aload_n (pc := 76) hx hb dX0_keeps_76 rfl (lv_at hl 0 rfl) ?_
  replace hf := tg_s hf; obtain ⟨ht1, hf⟩ := hf
  replace hf := bs hf; obtain ⟨a2, ha2, hf⟩ := hf
  refine x_get (pc := 77) X V okX0 ht1 4 (by decide) q364 (v := va_rf (R x0 4)) rfl dX0_keeps_77 ?_
  refine x_topr ha2 ?_
  refine lv_aload_n (pc := 80) hx hb dX0_keeps_80 rfl (lv_at hl 0 rfl) ?_
  refine x_get (pc := 81) X V okX0 ht1 15 (by decide) q375 (v := .int (I x0 15)) rfl dX0_keeps_81 ?_
  replace hf := rA_s hf; obtain ⟨j3, hjj3, htj3, hij3, hf⟩ := hf
  refine x_aald (pc := 84) X V (k := 6) rfl (by decide) htj3 hij3 hjj3 dX0_keeps_84 ?_
  replace hf := bs hf; obtain ⟨a4, ha4, hf⟩ := hf
  refine x_topr ha4 ?_
  refine lv_aload_n (pc := 85) hx hb dX0_keeps_85 rfl (lv_at hl 0 rfl) ?_
  replace hf := bs hf; obtain ⟨r5, hk_6, hf⟩ := hf
  refine x_callV0 (pc := 86) (As := []) (rest := [.ref a4]) X V (mX0_table l D dA s0 hk_6) okX0 ht1 q568 q570 qs6 q119 q571 ⟨rfl, hsX0_table⟩ ⟨Nat.le_of_ble_eq_true rfl, Nat.le_of_ble_eq_true rfl⟩ rfl hl.1 rfl (Nat.le_of_ble_eq_true rfl) dX0_keeps_86 ⟨Nat.zero_le _, Nat.zero_le _⟩ (fun H locs V => W.eq (g2 := F0 m 89 ls [.ref r5, .ref a4]) rfl ?_)
  replace hf := tg_s hf; obtain ⟨ht9, hf⟩ := hf
  replace hf := bs hf; obtain ⟨I7, hk_8, hf⟩ := hf
  refine x_callV0 (pc := 89) (As := [.ref r5]) (rest := []) X V (mX2_takes l D dA s0 hk_8) okX2 ht9 q1227 q461 q462 q121 q463 ⟨rfl, hsX2_takes⟩ ⟨Nat.le_of_ble_eq_true rfl, Nat.le_of_ble_eq_true rfl⟩ rfl hl.1 rfl (Nat.le_of_ble_eq_true rfl) dX0_keeps_89 ⟨Nat.zero_le _, Nat.zero_le _⟩ (fun H locs V => W.eq (g2 := F0 m 92 ls []) rfl ?_)
  refine lv_aload_n (pc := 92) hx hb dX0_keeps_92 rfl (lv_at hl 0 rfl) ?_
  replace hf := bs hf; obtain ⟨a10, ha10, hf⟩ := hf
  refine x_get (pc := 93) X V okX0 ht1 6 (by decide) q366 (v := va_rf (R x0 6)) rfl dX0_keeps_93 ?_
  refine x_topr ha10 ?_
  refine lv_aload_n (pc := 96) hx hb dX0_keeps_96 rfl (lv_at hl 0 rfl) ?_
  refine x_get (pc := 97) X V okX0 ht1 15 (by decide) q375 (v := .int (I7 x0 15)) rfl dX0_keeps_97 ?_
  refine lv_iload_n (pc := 100) hx hb dX0_keeps_100 rfl (lv_at hl 1 rfl) ?_
  replace hf := rA_s hf; obtain ⟨j11, hjj11, htj11, hij11, hf⟩ := hf
  replace hf := nm_s hf; obtain ⟨I12, hI12, hf⟩ := hf
  refine x_iast (pc := 101) X V htj11 hij11 hjj11 hI12 dX0_keeps_101 (fun H locs V => ?_)
  refine lv_aload_n (pc := 102) hx hb dX0_keeps_102 rfl (lv_at hl 0 rfl) ?_
  refine lv_dup (pc := 103) hx hb dX0_keeps_103 rfl ?_
  refine x_get (pc := 104) X V okX0 ht1 15 (by decide) q375 (v := .int (I12 x0 15)) rfl dX0_keeps_104 ?_
  refine lv_iconst (pc := 107) (v := (ii 1)) hx hb dX0_keeps_107 (by decide) ?_
  refine lv_iadd (pc := 108) hx hb dX0_keeps_108 ?_
  replace hf := nm_s hf; obtain ⟨I13, hI13, hf⟩ := hf
  refine x_puti (pc := 109) X V okX0 (by decide) ht1 15 (by decide) q375 (Or.inl rfl) hI13 (fun _ _ _ => rfl) rfl rfl dX0_keeps_109 (fun H locs V => ?_)
  cases hf
  exact x_vret (pc := 112) X V hr dX0_keeps_112
set_option maxHeartbeats 400000 in
set_option maxRecDepth 100000 in
theorem wX0_keeps_b18 {nf : Nat} {p : Program} {l : Launch} {e : Env} {s : State} {m : MethodId} {args : Array Value} {below : List Frame} {meth : Method} {c : Code} {D : va_G} {dA : Nat → ClassId} {s0 : Nat} {T : xT} {N : xT} {Z : Nat} {L : xL}  {Io : xI} {Ro : xR} (X : Cx D dA s0 p m c cX0_keeps 4 s args RX0 meth) (hr : meth.sig.returnType = none)   (k : Nat) : ∀ {I : xI} {R : xR} {x0 : Nat} {x1 : Int32} {x2 : Nat} {x3 : Int32} {H : Heap} {locs : List Loc} {ls : Array Slot} , fX0_keeps_b18 nf T N k I R x0 x1 x2 x3 = some (Io, Ro) → Iv D dA s0 s T N Z I L R H locs → lv_has ls 4 [(0, .ref x0), (1, .int x1), (2, .ref x2), (3, .int x3)] → W p l e { frames := 3, cells := 0, slots := 0, locals := 102 } s m args below meth c H locs 0 0 (MQ below (xQ D dA s0 none T N Z Io L Ro) args s 0 0 (fun q => s0 ≤ q)) (F0 m 18 ls []) := by
  have hx := X.1.1
  have hb := X.1.2.1
  induction k with
  | zero =>
    intro I R x0 x1 x2 x3 H locs ls hf V hl
    exact absurd (show none = some _ from hf) (fun q => nomatch q)
  | succ k ih =>
    intro I R x0 x1 x2 x3 H locs ls hf V hl
    rw [fX0_keeps_b18] at hf
    refine lv_iload_n (pc := 18) hx hb dX0_keeps_18 rfl (lv_at hl 3 rfl) ?_
    refine lv_bipush (pc := 19) (v := (ii 16)) hx hb dX0_keeps_19 (by decide) ?_
    refine lv_icmp_ge (pc := 21) (tgt := 58) hx hb dX0_keeps_21 (by decide) (fun c1 => ?_) (fun c1 => ?_)
    · replace hf := if_t hf c1
      refine lv_aload_n (pc := 58) hx hb dX0_keeps_58 rfl (lv_at hl 0 rfl) ?_
      replace hf := tg_s hf; obtain ⟨ht2, hf⟩ := hf
      replace hf := bs hf; obtain ⟨a3, ha3, hf⟩ := hf
      refine x_get (pc := 59) X V okX0 ht2 4 (by decide) q364 (v := va_rf (R x0 4)) rfl dX0_keeps_59 ?_
      refine x_topr ha3 ?_
      refine lv_bipush (pc := 62) (v := (ii 15)) hx hb dX0_keeps_62 (by decide) ?_
      refine lv_aload_n (pc := 64) hx hb dX0_keeps_64 rfl (lv_at hl 2 rfl) ?_
      replace hf := rA_s hf; obtain ⟨j4, hjj4, htj4, hij4, hf⟩ := hf
      replace hf := tg_s hf; obtain ⟨ht5, hf⟩ := hf
      replace hf := nm_s hf; obtain ⟨R6, hR6, hf⟩ := hf
      refine x_aast (pc := 65) X V (k := 6) rfl (by decide) htj4 hij4 hjj4 okX2 ht5 (Or.inl rfl) hR6 dX0_keeps_65 (fun H locs V => ?_)
      refine lv_aload_n (pc := 66) hx hb dX0_keeps_66 rfl (lv_at hl 0 rfl) ?_
      refine lv_dup (pc := 67) hx hb dX0_keeps_67 rfl ?_
      refine x_get (pc := 68) X V okX0 ht2 15 (by decide) q375 (v := .int (I x0 15)) rfl dX0_keeps_68 ?_
      refine lv_iconst (pc := 71) (v := (ii 1)) hx hb dX0_keeps_71 (by decide) ?_
      refine lv_isub (pc := 72) hx hb dX0_keeps_72 ?_
      replace hf := nm_s hf; obtain ⟨I7, hI7, hf⟩ := hf
      refine x_puti (pc := 73) X V okX0 (by decide) ht2 15 (by decide) q375 (Or.inl rfl) hI7 (fun _ _ _ => rfl) rfl rfl dX0_keeps_73 (fun H locs V => ?_)
      exact wX0_keeps_b76 X hr hf V (lv_sub hl [0, 1] rfl)
    · replace hf := if_f hf c1
      refine lv_aload_n (pc := 24) hx hb dX0_keeps_24 rfl (lv_at hl 0 rfl) ?_
      replace hf := tg_s hf; obtain ⟨ht8, hf⟩ := hf
      replace hf := bs hf; obtain ⟨a9, ha9, hf⟩ := hf
      refine x_get (pc := 25) X V okX0 ht8 4 (by decide) q364 (v := va_rf (R x0 4)) rfl dX0_keeps_25 ?_
      refine x_topr ha9 ?_
      refine lv_iload_n (pc := 28) hx hb dX0_keeps_28 rfl (lv_at hl 3 rfl) ?_
      refine lv_iconst (pc := 29) (v := (ii 1)) hx hb dX0_keeps_29 (by decide) ?_
      refine lv_isub (pc := 30) hx hb dX0_keeps_30 ?_
      refine lv_aload_n (pc := 31) hx hb dX0_keeps_31 rfl (lv_at hl 0 rfl) ?_
      refine x_get (pc := 32) X V okX0 ht8 4 (by decide) q364 (v := va_rf (R x0 4)) rfl dX0_keeps_32 ?_
      refine x_topr ha9 ?_
      refine lv_iload_n (pc := 35) hx hb dX0_keeps_35 rfl (lv_at hl 3 rfl) ?_
      replace hf := rA_s hf; obtain ⟨j10, hjj10, htj10, hij10, hf⟩ := hf
      refine x_aald (pc := 36) X V (k := 6) rfl (by decide) htj10 hij10 hjj10 dX0_keeps_36 ?_
      replace hf := bs hf; obtain ⟨a11, ha11, hf⟩ := hf
      refine x_topr ha11 ?_
      replace hf := rA_s hf; obtain ⟨j12, hjj12, htj12, hij12, hf⟩ := hf
      replace hf := tg_s hf; obtain ⟨ht13, hf⟩ := hf
      replace hf := nm_s hf; obtain ⟨R14, hR14, hf⟩ := hf
      refine x_aast (pc := 37) X V (k := 6) rfl (by decide) htj12 hij12 hjj12 okX2 ht13 (Or.inl rfl) hR14 dX0_keeps_37 (fun H locs V => ?_)
      refine lv_aload_n (pc := 38) hx hb dX0_keeps_38 rfl (lv_at hl 0 rfl) ?_
      replace hf := bs hf; obtain ⟨a15, ha15, hf⟩ := hf
      refine x_get (pc := 39) X V okX0 ht8 6 (by decide) q366 (v := va_rf (R14 x0 6)) rfl dX0_keeps_39 ?_
      refine x_topr ha15 ?_
      refine lv_iload_n (pc := 42) hx hb dX0_keeps_42 rfl (lv_at hl 3 rfl) ?_
      refine lv_iconst (pc := 43) (v := (ii 1)) hx hb dX0_keeps_43 (by decide) ?_
      refine lv_isub (pc := 44) hx hb dX0_keeps_44 ?_
      refine lv_aload_n (pc := 45) hx hb dX0_keeps_45 rfl (lv_at hl 0 rfl) ?_
      refine x_get (pc := 46) X V okX0 ht8 6 (by decide) q366 (v := va_rf (R14 x0 6)) rfl dX0_keeps_46 ?_
      refine x_topr ha15 ?_
      refine lv_iload_n (pc := 49) hx hb dX0_keeps_49 rfl (lv_at hl 3 rfl) ?_
      replace hf := rA_s hf; obtain ⟨j16, hjj16, htj16, hij16, hf⟩ := hf
      refine x_iald (pc := 50) X V htj16 hij16 hjj16 dX0_keeps_50 ?_
      replace hf := rA_s hf; obtain ⟨j17, hjj17, htj17, hij17, hf⟩ := hf
      replace hf := nm_s hf; obtain ⟨I18, hI18, hf⟩ := hf
      refine x_iast (pc := 51) X V htj17 hij17 hjj17 hI18 dX0_keeps_51 (fun H locs V => ?_)
      replace hf := nm_s hf; obtain ⟨u19, hu19, hf⟩ := hf
      refine lv_iinc (pc := 52) (v := u19) (lv' := [(3, .int u19), (0, .ref x0), (1, .int x1), (2, .ref x2)]) hx hb dX0_keeps_52 hl (k := 3) rfl (by rw [hu19]; rfl) (by decide) rfl (fun ls hl => ?_)
      refine lv_goto (pc := 55) (tgt := 18) hx hb dX0_keeps_55 (by decide) ?_
      exact ih hf V (lv_sub hl [1, 2, 3, 0] rfl)
set_option maxHeartbeats 400000 in
set_option maxRecDepth 100000 in
theorem wX0_keeps_e {nf : Nat} {p : Program} {l : Launch} {e : Env} {s : State} {m : MethodId} {args : Array Value} {below : List Frame} {meth : Method} {c : Code} {D : va_G} {dA : Nat → ClassId} {s0 : Nat} {T : xT} {N : xT} {Z : Nat} {I : xI} {L : xL} {R : xR} {H : Heap} {locs : List Loc} {ls : Array Slot} {x0 : Nat} {x1 : Int32} {Io : xI} {Ro : xR} (X : Cx D dA s0 p m c cX0_keeps 4 s args RX0 meth) (hr : meth.sig.returnType = none) (hf : fX0_keeps nf T N I R x0 x1 = some (Io, Ro)) (V : Iv D dA s0 s T N Z I L R H locs) (hl : lv_has ls 4 [(0, .ref x0), (1, .int x1)]) : W p l e { frames := 3, cells := 0, slots := 0, locals := 102 } s m args below meth c H locs 0 0 (MQ below (xQ D dA s0 none T N Z Io L Ro) args s 0 0 (fun q => s0 ≤ q)) (F0 m 0 ls []) := by
  have hx := X.1.1
  have hb := X.1.2.1
  unfold fX0_keeps at hf
  refine lv_aload_n (pc := 0) hx hb dX0_keeps_0 rfl (lv_at hl 0 rfl) ?_
  replace hf := tg_s hf; obtain ⟨ht1, hf⟩ := hf
  refine x_get (pc := 1) X V okX0 ht1 15 (by decide) q375 (v := .int (I x0 15)) rfl dX0_keeps_1 ?_
  refine lv_bipush (pc := 4) (v := (ii 16)) hx hb dX0_keeps_4 (by decide) ?_
  refine lv_icmp_ne (pc := 6) (tgt := 76) hx hb dX0_keeps_6 (by decide) (fun c2 => ?_) (fun c2 => ?_)
  · replace hf := if_f hf c2
    exact wX0_keeps_b76 X hr hf V (lv_sub hl [0, 1] rfl)
  · replace hf := if_t hf c2
    refine lv_aload_n (pc := 9) hx hb dX0_keeps_9 rfl (lv_at hl 0 rfl) ?_
    replace hf := bs hf; obtain ⟨a3, ha3, hf⟩ := hf
    refine x_get (pc := 10) X V okX0 ht1 4 (by decide) q364 (v := va_rf (R x0 4)) rfl dX0_keeps_10 ?_
    refine x_topr ha3 ?_
    refine lv_iconst (pc := 13) (v := (ii 0)) hx hb dX0_keeps_13 (by decide) ?_
    replace hf := rA_s hf; obtain ⟨j4, hjj4, htj4, hij4, hf⟩ := hf
    refine x_aald (pc := 14) X V (k := 6) rfl (by decide) htj4 hij4 hjj4 dX0_keeps_14 ?_
    replace hf := bs hf; obtain ⟨a5, ha5, hf⟩ := hf
    refine x_topr ha5 ?_
    refine lv_astore_n (pc := 15) (lv' := [(2, .ref a5), (0, .ref x0), (1, .int x1)]) hx hb dX0_keeps_15 rfl hl (by decide) rfl (fun ls hl => ?_)
    refine lv_iconst (pc := 16) (v := (ii 1)) hx hb dX0_keeps_16 (by decide) ?_
    refine lv_istore_n (pc := 17) (lv' := [(3, .int (ii 1)), (2, .ref a5), (0, .ref x0), (1, .int x1)]) hx hb dX0_keeps_17 rfl hl (by decide) rfl (fun ls hl => ?_)
    exact wX0_keeps_b18 X hr nf hf V (lv_sub hl [2, 3, 1, 0] rfl)
theorem mX0_keeps {nf : Nat} (l : Launch) (D : va_G) (dA : Nat → ClassId) (s0 : Nat) {T : xT} {N : xT} {Z : Nat} {I : xI} {L : xL} {R : xR} {x0 : Nat} {x1 : Int32} {Io : xI} {Ro : xR} (hf : fX0_keeps nf T N I R x0 x1 = some (Io, Ro)) : XMet l D dA s0 yX0_keeps (ws_ yX0_keeps cX0_keeps 4 (none)) (3) (102) [.ref x0, .int x1] T N Z I L R none T N Z Io L Ro 0 0 :=
  x_start (own := RX0) rfl (by decide) (Nat.le_of_ble_eq_true rfl) (lv := [(0, .ref x0), (1, .int x1)]) rfl (fun p e s m below meth c ls X hr hini V hl => wX0_keeps_e X hr hf V hl)
set_option maxHeartbeats 400000 in
set_option maxRecDepth 100000 in
theorem wX0_goes_e {p : Program} {l : Launch} {e : Env} {s : State} {m : MethodId} {args : Array Value} {below : List Frame} {meth : Method} {c : Code} {D : va_G} {dA : Nat → ClassId} {s0 : Nat} {T : xT} {N : xT} {Z : Nat} {I : xI} {L : xL} {R : xR} {H : Heap} {locs : List Loc} {ls : Array Slot} {x0 : Nat} {x1 : Nat} {x2 : Int32} {x3 : Int32} {Io : xI} (X : Cx D dA s0 p m c cX0_goes 4 s args RX0 meth) (hr : meth.sig.returnType = none) (hf : fX0_goes T N I R x0 x1 x2 x3 = some Io) (V : Iv D dA s0 s T N Z I L R H locs) (hl : lv_has ls 4 [(0, .ref x0), (1, .ref x1), (2, .int x2), (3, .int x3)]) : W p l e { frames := 1, cells := 0, slots := 0, locals := 22 } s m args below meth c H locs 0 0 (MQ below (xQ D dA s0 none T N Z Io L R) args s 0 0 (fun q => s0 ≤ q)) (F0 m 0 ls []) := by
  have hx := X.1.1
  have hb := X.1.2.1
  unfold fX0_goes at hf
  refine lv_aload_n (pc := 0) hx hb dX0_goes_0 rfl (lv_at hl 1 rfl) ?_
  replace hf := tg_s hf; obtain ⟨ht1, hf⟩ := hf
  replace hf := bs hf; obtain ⟨a2, ha2, hf⟩ := hf
  refine x_getN (pc := 1) X V okX2 ht1 0 (by decide) q176 (v := va_rf (R x1 0)) rfl dX0_goes_1 ?_
  refine x_topr ha2 ?_
  refine lv_iload_n (pc := 4) hx hb dX0_goes_4 rfl (lv_at hl 2 rfl) ?_
  refine lv_aload_n (pc := 5) hx hb dX0_goes_5 rfl (lv_at hl 0 rfl) ?_
  replace hf := tg_s hf; obtain ⟨ht3, hf⟩ := hf
  replace hf := bs hf; obtain ⟨a4, ha4, hf⟩ := hf
  refine x_get (pc := 6) X V okX0 ht3 2 (by decide) q362 (v := va_rf (R x0 2)) rfl dX0_goes_6 ?_
  refine x_topr ha4 ?_
  refine lv_iload_n (pc := 9) hx hb dX0_goes_9 rfl (lv_at hl 3 rfl) ?_
  refine lv_aload_n (pc := 10) hx hb dX0_goes_10 rfl (lv_at hl 1 rfl) ?_
  refine x_getN (pc := 11) X V okX2 ht1 0 (by decide) q176 (v := va_rf (R x1 0)) rfl dX0_goes_11 ?_
  refine x_topr ha2 ?_
  refine lv_iload_n (pc := 14) hx hb dX0_goes_14 rfl (lv_at hl 2 rfl) ?_
  replace hf := rA_s hf; obtain ⟨j5, hjj5, htj5, hij5, hf⟩ := hf
  refine x_iald (pc := 15) X V htj5 hij5 hjj5 dX0_goes_15 ?_
  replace hf := tg_s hf; obtain ⟨ht8, hf⟩ := hf
  replace hf := bs hf; obtain ⟨r6, hk_7, hf⟩ := hf
  refine x_callV0 (pc := 16) (As := [.int x3, .int (I a2 j5)]) (rest := [.int x2, .ref a2]) X V (mX1_otherEnd l D dA s0 hk_7) okX1 ht8 q1232 q1233 q1234 q120 q1235 ⟨rfl, hsX1_otherEnd⟩ ⟨Nat.le_of_ble_eq_true rfl, Nat.le_of_ble_eq_true rfl⟩ rfl hl.1 rfl (Nat.le_of_ble_eq_true rfl) dX0_goes_16 ⟨Nat.zero_le _, Nat.zero_le _⟩ (fun H locs V => W.eq (g2 := F0 m 19 ls [.int r6, .int x2, .ref a2]) rfl ?_)
  replace hf := nm_s hf; obtain ⟨I9, hI9, hf⟩ := hf
  refine x_iast (pc := 19) X V htj5 hij5 hjj5 hI9 dX0_goes_19 (fun H locs V => ?_)
  refine lv_aload_n (pc := 20) hx hb dX0_goes_20 rfl (lv_at hl 1 rfl) ?_
  replace hf := bs hf; obtain ⟨a10, ha10, hf⟩ := hf
  refine x_getN (pc := 21) X V okX2 ht1 1 (by decide) q178 (v := va_rf (R x1 1)) rfl dX0_goes_21 ?_
  refine x_topr ha10 ?_
  refine lv_iload_n (pc := 24) hx hb dX0_goes_24 rfl (lv_at hl 2 rfl) ?_
  refine lv_iload_n (pc := 25) hx hb dX0_goes_25 rfl (lv_at hl 3 rfl) ?_
  replace hf := rA_s hf; obtain ⟨j11, hjj11, htj11, hij11, hf⟩ := hf
  replace hf := nm_s hf; obtain ⟨I12, hI12, hf⟩ := hf
  refine x_iast (pc := 26) X V htj11 hij11 hjj11 hI12 dX0_goes_26 (fun H locs V => ?_)
  cases hf
  exact x_vret (pc := 27) X V hr dX0_goes_27
theorem mX0_goes (l : Launch) (D : va_G) (dA : Nat → ClassId) (s0 : Nat) {T : xT} {N : xT} {Z : Nat} {I : xI} {L : xL} {R : xR} {x0 : Nat} {x1 : Nat} {x2 : Int32} {x3 : Int32} {Io : xI} (hf : fX0_goes T N I R x0 x1 x2 x3 = some Io) : XMet l D dA s0 yX0_goes (ws_ yX0_goes cX0_goes 4 (none)) (1) (22) [.ref x0, .ref x1, .int x2, .int x3] T N Z I L R none T N Z Io L R 0 0 :=
  x_start (own := RX0) rfl (by decide) (Nat.le_of_ble_eq_true rfl) (lv := [(0, .ref x0), (1, .ref x1), (2, .int x2), (3, .int x3)]) rfl (fun p e s m below meth c ls X hr hini V hl => wX0_goes_e X hr hf V hl)
set_option maxHeartbeats 400000 in
set_option maxRecDepth 100000 in
theorem wX0_wandersKept_e {nf : Nat} {p : Program} {l : Launch} {e : Env} {s : State} {m : MethodId} {args : Array Value} {below : List Frame} {meth : Method} {c : Code} {D : va_G} {dA : Nat → ClassId} {s0 : Nat} {T : xT} {N : xT} {Z : Nat} {I : xI} {L : xL} {R : xR} {H : Heap} {locs : List Loc} {ls : Array Slot} {x0 : Nat} {x1 : Int32} {ro : Int32} {Io : xI} {Lo : xL} {Ro : xR} (X : Cx D dA s0 p m c cX0_wandersKept 3 s args RX0 meth) (hr : meth.sig.returnType = (some .int)) (hf : fX0_wandersKept nf T N I L R x0 x1 = some (ro, Io, Lo, Ro)) (V : Iv D dA s0 s T N Z I L R H locs) (hl : lv_has ls 3 [(0, .ref x0), (1, .int x1)]) : W p l e { frames := 194, cells := 0, slots := 0, locals := 9429 } s m args below meth c H locs 0 0 (MQ below (xQ D dA s0 (some (.int ro)) T N Z Io Lo Ro) args s 0 0 (fun q => s0 ≤ q)) (F0 m 0 ls []) := by
  have hx := X.1.1
  have hb := X.1.2.1
  unfold fX0_wandersKept at hf
  refine lv_aload_n (pc := 0) hx hb dX0_wandersKept_0 rfl (lv_at hl 0 rfl) ?_
  refine lv_iload_n (pc := 1) hx hb dX0_wandersKept_1 rfl (lv_at hl 1 rfl) ?_
  replace hf := tg_s hf; obtain ⟨ht3, hf⟩ := hf
  replace hf := bs hf; obtain ⟨r1, hk_2, hf⟩ := hf
  refine x_callV0 (pc := 2) (As := [.int x1]) (rest := []) X V (mX0_isChild l D dA s0 hk_2) okX0 ht3 q588 q590 qs8 q119 q591 ⟨rfl, hsX0_isChild⟩ ⟨Nat.le_of_ble_eq_true rfl, Nat.le_of_ble_eq_true rfl⟩ rfl hl.1 rfl (Nat.le_of_ble_eq_true rfl) dX0_wandersKept_2 ⟨Nat.zero_le _, Nat.zero_le _⟩ (fun H locs V => W.eq (g2 := F0 m 5 ls [.int r1]) rfl ?_)
  refine lv_if_ne (pc := 5) (tgt := 11) hx hb dX0_wandersKept_5 (by decide) (fun c4 => ?_) (fun c4 => ?_)
  · replace hf := if_f hf c4
    refine lv_aload_n (pc := 11) hx hb dX0_wandersKept_11 rfl (lv_at hl 0 rfl) ?_
    refine lv_aload_n (pc := 12) hx hb dX0_wandersKept_12 rfl (lv_at hl 0 rfl) ?_
    replace hf := bs hf; obtain ⟨r5, hk_6, hf⟩ := hf
    refine x_callV0 (pc := 13) (As := []) (rest := [.ref x0]) X V (mX0_table l D dA s0 hk_6) okX0 ht3 q568 q570 qs6 q119 q571 ⟨rfl, hsX0_table⟩ ⟨Nat.le_of_ble_eq_true rfl, Nat.le_of_ble_eq_true rfl⟩ rfl hl.1 rfl (Nat.le_of_ble_eq_true rfl) dX0_wandersKept_13 ⟨Nat.zero_le _, Nat.zero_le _⟩ (fun H locs V => W.eq (g2 := F0 m 16 ls [.ref r5, .ref x0]) rfl ?_)
    refine lv_iload_n (pc := 16) hx hb dX0_wandersKept_16 rfl (lv_at hl 1 rfl) ?_
    replace hf := b3s hf; obtain ⟨r7, I8, L9, hk_10, hf⟩ := hf
    refine x_callV0 (pc := 17) (As := [.ref r5, .int x1]) (rest := []) X V (mX0_laneNext l D dA s0 hk_10) okX0 ht3 q679 q681 qs11 q119 q682 ⟨rfl, hsX0_laneNext⟩ ⟨Nat.le_of_ble_eq_true rfl, Nat.le_of_ble_eq_true rfl⟩ rfl hl.1 rfl (Nat.le_of_ble_eq_true rfl) dX0_wandersKept_17 ⟨Nat.zero_le _, Nat.zero_le _⟩ (fun H locs V => W.eq (g2 := F0 m 20 ls [.int r7]) rfl ?_)
    refine lv_istore_n (pc := 20) (lv' := [(2, .int r7), (0, .ref x0), (1, .int x1)]) hx hb dX0_wandersKept_20 rfl hl (by decide) rfl (fun ls hl => ?_)
    refine lv_iload_n (pc := 21) hx hb dX0_wandersKept_21 rfl (lv_at hl 0 rfl) ?_
    refine lv_iconst (pc := 22) (v := (-1 : Int32)) hx hb dX0_wandersKept_22 (by decide) ?_
    refine lv_icmp_ne (pc := 23) (tgt := 29) hx hb dX0_wandersKept_23 (by decide) (fun c11 => ?_) (fun c11 => ?_)
    · replace hf := if_f hf c11
      refine lv_aload_n (pc := 29) hx hb dX0_wandersKept_29 rfl (lv_at hl 1 rfl) ?_
      refine lv_iconst (pc := 30) (v := (ii 0)) hx hb dX0_wandersKept_30 (by decide) ?_
      replace hf := b2s hf; obtain ⟨I12, R13, hk_14, hf⟩ := hf
      refine x_callV0 (pc := 31) (As := [.int (ii 0)]) (rest := []) X V (mX0_keeps l D dA s0 hk_14) okX0 ht3 q1223 q1225 qs20 q119 q1226 ⟨rfl, hsX0_keeps⟩ ⟨Nat.le_of_ble_eq_true rfl, Nat.le_of_ble_eq_true rfl⟩ rfl hl.1 rfl (Nat.le_of_ble_eq_true rfl) dX0_wandersKept_31 ⟨Nat.zero_le _, Nat.zero_le _⟩ (fun H locs V => W.eq (g2 := F0 m 34 ls []) rfl ?_)
      refine lv_aload_n (pc := 34) hx hb dX0_wandersKept_34 rfl (lv_at hl 1 rfl) ?_
      refine lv_aload_n (pc := 35) hx hb dX0_wandersKept_35 rfl (lv_at hl 1 rfl) ?_
      replace hf := bs hf; obtain ⟨r15, hk_16, hf⟩ := hf
      refine x_callV0 (pc := 36) (As := []) (rest := [.ref x0]) X V (mX0_table l D dA s0 hk_16) okX0 ht3 q568 q570 qs6 q119 q571 ⟨rfl, hsX0_table⟩ ⟨Nat.le_of_ble_eq_true rfl, Nat.le_of_ble_eq_true rfl⟩ rfl hl.1 rfl (Nat.le_of_ble_eq_true rfl) dX0_wandersKept_36 ⟨Nat.zero_le _, Nat.zero_le _⟩ (fun H locs V => W.eq (g2 := F0 m 39 ls [.ref r15, .ref x0]) rfl ?_)
      refine lv_iload_n (pc := 39) hx hb dX0_wandersKept_39 rfl (lv_at hl 2 rfl) ?_
      refine lv_iload_n (pc := 40) hx hb dX0_wandersKept_40 rfl (lv_at hl 0 rfl) ?_
      replace hf := bs hf; obtain ⟨I17, hk_18, hf⟩ := hf
      refine x_callV0 (pc := 41) (As := [.ref r15, .int x1, .int r7]) (rest := []) X V (mX0_goes l D dA s0 hk_18) okX0 ht3 q1228 q1230 qs21 q119 q1231 ⟨rfl, hsX0_goes⟩ ⟨Nat.le_of_ble_eq_true rfl, Nat.le_of_ble_eq_true rfl⟩ rfl hl.1 rfl (Nat.le_of_ble_eq_true rfl) dX0_wandersKept_41 ⟨Nat.zero_le _, Nat.zero_le _⟩ (fun H locs V => W.eq (g2 := F0 m 44 ls []) rfl ?_)
      refine lv_aload_n (pc := 44) hx hb dX0_wandersKept_44 rfl (lv_at hl 1 rfl) ?_
      replace hf := bs hf; obtain ⟨r19, hk_20, hf⟩ := hf
      refine x_callV0 (pc := 45) (As := []) (rest := []) X V (mX0_table l D dA s0 hk_20) okX0 ht3 q568 q570 qs6 q119 q571 ⟨rfl, hsX0_table⟩ ⟨Nat.le_of_ble_eq_true rfl, Nat.le_of_ble_eq_true rfl⟩ rfl hl.1 rfl (Nat.le_of_ble_eq_true rfl) dX0_wandersKept_45 ⟨Nat.zero_le _, Nat.zero_le _⟩ (fun H locs V => W.eq (g2 := F0 m 48 ls [.ref r19]) rfl ?_)
      replace hf := tg_s hf; obtain ⟨ht21, hf⟩ := hf
      replace hf := bs hf; obtain ⟨a22, ha22, hf⟩ := hf
      refine x_getN (pc := 48) X V okX2 ht21 0 (by decide) q176 (v := va_rf (R13 r19 0)) rfl dX0_wandersKept_48 ?_
      refine x_topr ha22 ?_
      refine lv_iload_n (pc := 51) hx hb dX0_wandersKept_51 rfl (lv_at hl 2 rfl) ?_
      replace hf := rA_s hf; obtain ⟨j23, hjj23, htj23, hij23, hf⟩ := hf
      refine x_iald (pc := 52) X V htj23 hij23 hjj23 dX0_wandersKept_52 ?_
      cases hf
      exact x_iret (pc := 53) X V hr dX0_wandersKept_53
    · replace hf := if_t hf c11
      refine lv_bipush (pc := 26) (v := (-3 : Int32)) hx hb dX0_wandersKept_26 (by decide) ?_
      cases hf
      exact x_iret (pc := 28) X V hr dX0_wandersKept_28
  · replace hf := if_t hf c4
    refine lv_bipush (pc := 8) (v := (-2 : Int32)) hx hb dX0_wandersKept_8 (by decide) ?_
    cases hf
    exact x_iret (pc := 10) X V hr dX0_wandersKept_10
theorem mX0_wandersKept {nf : Nat} (l : Launch) (D : va_G) (dA : Nat → ClassId) (s0 : Nat) {T : xT} {N : xT} {Z : Nat} {I : xI} {L : xL} {R : xR} {x0 : Nat} {x1 : Int32} {ro : Int32} {Io : xI} {Lo : xL} {Ro : xR} (hf : fX0_wandersKept nf T N I L R x0 x1 = some (ro, Io, Lo, Ro)) : XMet l D dA s0 yX0_wandersKept (ws_ yX0_wandersKept cX0_wandersKept 3 ((some .int))) (194) (9429) [.ref x0, .int x1] T N Z I L R (some (.int ro)) T N Z Io Lo Ro 0 0 :=
  x_start (own := RX0) rfl (by decide) (Nat.le_of_ble_eq_true rfl) (lv := [(0, .ref x0), (1, .int x1)]) rfl (fun p e s m below meth c ls X hr hini V hl => wX0_wandersKept_e X hr hf V hl)
set_option maxHeartbeats 400000 in
set_option maxRecDepth 100000 in
theorem wX0_doneOr_e {p : Program} {l : Launch} {e : Env} {s : State} {m : MethodId} {args : Array Value} {below : List Frame} {meth : Method} {c : Code} {D : va_G} {dA : Nat → ClassId} {s0 : Nat} {T : xT} {N : xT} {Z : Nat} {I : xI} {L : xL} {R : xR} {H : Heap} {locs : List Loc} {ls : Array Slot} {x0 : Nat} {x1 : Int32} {ro : Int32} {Io : xI} (X : Cx D dA s0 p m c cX0_doneOr 2 s args RX0 meth) (hr : meth.sig.returnType = (some .int)) (hf : fX0_doneOr T N I R x0 x1 = some (ro, Io)) (V : Iv D dA s0 s T N Z I L R H locs) (hl : lv_has ls 2 [(0, .ref x0), (1, .int x1)]) : W p l e { frames := 1, cells := 0, slots := 0, locals := 21 } s m args below meth c H locs 0 0 (MQ below (xQ D dA s0 (some (.int ro)) T N Z Io L R) args s 0 0 (fun q => s0 ≤ q)) (F0 m 0 ls []) := by
  have hx := X.1.1
  have hb := X.1.2.1
  unfold fX0_doneOr at hf
  refine lv_iload_n (pc := 0) hx hb dX0_doneOr_0 rfl (lv_at hl 1 rfl) ?_
  refine lv_if_ge (pc := 1) (tgt := 12) hx hb dX0_doneOr_1 (by decide) (fun c1 => ?_) (fun c1 => ?_)
  · replace hf := if_t hf c1
    refine lv_aload_n (pc := 12) hx hb dX0_doneOr_12 rfl (lv_at hl 0 rfl) ?_
    refine lv_iload_n (pc := 13) hx hb dX0_doneOr_13 rfl (lv_at hl 1 rfl) ?_
    replace hf := tg_s hf; obtain ⟨ht5, hf⟩ := hf
    replace hf := b2s hf; obtain ⟨r2, I3, hk_4, hf⟩ := hf
    refine x_callV0 (pc := 14) (As := [.int x1]) (rest := []) X V (mX0_done l D dA s0 hk_4) okX0 ht5 q542 q544 qs3 q119 q545 ⟨rfl, hsX0_done⟩ ⟨Nat.le_of_ble_eq_true rfl, Nat.le_of_ble_eq_true rfl⟩ rfl hl.1 rfl (Nat.le_of_ble_eq_true rfl) dX0_doneOr_14 ⟨Nat.zero_le _, Nat.zero_le _⟩ (fun H locs V => W.eq (g2 := F0 m 17 ls [.int r2]) rfl ?_)
    cases hf
    exact x_iret (pc := 17) X V hr dX0_doneOr_17
  · replace hf := if_f hf c1
    refine lv_aload_n (pc := 4) hx hb dX0_doneOr_4 rfl (lv_at hl 0 rfl) ?_
    refine lv_iload_n (pc := 5) hx hb dX0_doneOr_5 rfl (lv_at hl 1 rfl) ?_
    replace hf := tg_s hf; obtain ⟨ht9, hf⟩ := hf
    replace hf := b2s hf; obtain ⟨r6, I7, hk_8, hf⟩ := hf
    refine x_callV0 (pc := 6) (As := [.int x1]) (rest := []) X V (mX0_refuse l D dA s0 hk_8) okX0 ht9 q452 q454 qs1 q119 q455 ⟨rfl, hsX0_refuse⟩ ⟨Nat.le_of_ble_eq_true rfl, Nat.le_of_ble_eq_true rfl⟩ rfl hl.1 rfl (Nat.le_of_ble_eq_true rfl) dX0_doneOr_6 ⟨Nat.zero_le _, Nat.zero_le _⟩ (fun H locs V => W.eq (g2 := F0 m 9 ls [.int r6]) rfl ?_)
    refine lv_goto (pc := 9) (tgt := 17) hx hb dX0_doneOr_9 (by decide) ?_
    cases hf
    exact x_iret (pc := 17) X V hr dX0_doneOr_17
theorem mX0_doneOr (l : Launch) (D : va_G) (dA : Nat → ClassId) (s0 : Nat) {T : xT} {N : xT} {Z : Nat} {I : xI} {L : xL} {R : xR} {x0 : Nat} {x1 : Int32} {ro : Int32} {Io : xI} (hf : fX0_doneOr T N I R x0 x1 = some (ro, Io)) : XMet l D dA s0 yX0_doneOr (ws_ yX0_doneOr cX0_doneOr 2 ((some .int))) (1) (21) [.ref x0, .int x1] T N Z I L R (some (.int ro)) T N Z Io L R 0 0 :=
  x_start (own := RX0) rfl (by decide) (Nat.le_of_ble_eq_true rfl) (lv := [(0, .ref x0), (1, .int x1)]) rfl (fun p e s m below meth c ls X hr hini V hl => wX0_doneOr_e X hr hf V hl)
set_option maxHeartbeats 400000 in
set_option maxRecDepth 100000 in
theorem wX0_wander_e {nf : Nat} {p : Program} {l : Launch} {e : Env} {s : State} {m : MethodId} {args : Array Value} {below : List Frame} {meth : Method} {c : Code} {D : va_G} {dA : Nat → ClassId} {s0 : Nat} {T : xT} {N : xT} {Z : Nat} {I : xI} {L : xL} {R : xR} {H : Heap} {locs : List Loc} {ls : Array Slot} {x0 : Nat} {x1 : Int32} {ro : Int32} {Io : xI} {Lo : xL} {Ro : xR} (X : Cx D dA s0 p m c cX0_wander 2 s args RX0 meth) (hr : meth.sig.returnType = (some .int)) (hf : fX0_wander nf T N I L R x0 x1 = some (ro, Io, Lo, Ro)) (V : Iv D dA s0 s T N Z I L R H locs) (hl : lv_has ls 2 [(0, .ref x0), (1, .int x1)]) : W p l e { frames := 195, cells := 0, slots := 0, locals := 9451 } s m args below meth c H locs 0 0 (MQ below (xQ D dA s0 (some (.int ro)) T N Z Io Lo Ro) args s 0 0 (fun q => s0 ≤ q)) (F0 m 0 ls []) := by
  have hx := X.1.1
  have hb := X.1.2.1
  unfold fX0_wander at hf
  refine lv_aload_n (pc := 0) hx hb dX0_wander_0 rfl (lv_at hl 0 rfl) ?_
  refine lv_aload_n (pc := 1) hx hb dX0_wander_1 rfl (lv_at hl 0 rfl) ?_
  refine lv_iload_n (pc := 2) hx hb dX0_wander_2 rfl (lv_at hl 1 rfl) ?_
  replace hf := tg_s hf; obtain ⟨ht6, hf⟩ := hf
  replace hf := b4s hf; obtain ⟨r1, I2, L3, R4, hk_5, hf⟩ := hf
  refine x_callV0 (pc := 3) (As := [.int x1]) (rest := [.ref x0]) X V (mX0_wandersKept l D dA s0 hk_5) okX0 ht6 q1219 q1221 qs19 q119 q1222 ⟨rfl, hsX0_wandersKept⟩ ⟨Nat.le_of_ble_eq_true rfl, Nat.le_of_ble_eq_true rfl⟩ rfl hl.1 rfl (Nat.le_of_ble_eq_true rfl) dX0_wander_3 ⟨Nat.zero_le _, Nat.zero_le _⟩ (fun H locs V => W.eq (g2 := F0 m 6 ls [.int r1, .ref x0]) rfl ?_)
  replace hf := b2s hf; obtain ⟨r7, I8, hk_9, hf⟩ := hf
  refine x_callV0 (pc := 6) (As := [.int r1]) (rest := []) X V (mX0_doneOr l D dA s0 hk_9) okX0 ht6 q1236 q1238 qs22 q119 q1239 ⟨rfl, hsX0_doneOr⟩ ⟨Nat.le_of_ble_eq_true rfl, Nat.le_of_ble_eq_true rfl⟩ rfl hl.1 rfl (Nat.le_of_ble_eq_true rfl) dX0_wander_6 ⟨Nat.zero_le _, Nat.zero_le _⟩ (fun H locs V => W.eq (g2 := F0 m 9 ls [.int r7]) rfl ?_)
  cases hf
  exact x_iret (pc := 9) X V hr dX0_wander_9
theorem mX0_wander {nf : Nat} (l : Launch) (D : va_G) (dA : Nat → ClassId) (s0 : Nat) {T : xT} {N : xT} {Z : Nat} {I : xI} {L : xL} {R : xR} {x0 : Nat} {x1 : Int32} {ro : Int32} {Io : xI} {Lo : xL} {Ro : xR} (hf : fX0_wander nf T N I L R x0 x1 = some (ro, Io, Lo, Ro)) : XMet l D dA s0 yX0_wander (ws_ yX0_wander cX0_wander 2 ((some .int))) (195) (9451) [.ref x0, .int x1] T N Z I L R (some (.int ro)) T N Z Io Lo Ro 0 0 :=
  x_start (own := RX0) rfl (by decide) (Nat.le_of_ble_eq_true rfl) (lv := [(0, .ref x0), (1, .int x1)]) rfl (fun p e s m below meth c ls X hr hini V hl => wX0_wander_e X hr hf V hl)
