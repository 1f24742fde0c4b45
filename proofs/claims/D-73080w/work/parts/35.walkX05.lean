set_option maxHeartbeats 400000 in
set_option maxRecDepth 100000 in
theorem wX0_meet_e {p : Program} {l : Launch} {e : Env} {s : State} {m : MethodId} {args : Array Value} {below : List Frame} {meth : Method} {c : Code} {D : va_G} {dA : Nat → ClassId} {s0 : Nat} {T : xT} {N : xT} {Z : Nat} {I : xI} {L : xL} {R : xR} {H : Heap} {locs : List Loc} {ls : Array Slot} {x0 : Nat} {x1 : Int32} {x2 : Int32} {ro : Int32} (X : Cx D dA s0 p m c cX0_meet 3 s args RX0 meth) (hr : meth.sig.returnType = (some .boolean)) (hf : fX0_meet T N I R x0 x1 x2 = some ro) (V : Iv D dA s0 s T N Z I L R H locs) (hl : lv_has ls 3 [(0, .ref x0), (1, .int x1), (2, .int x2)]) : W p l e { frames := 1, cells := 0, slots := 0, locals := 22 } s m args below meth c H locs 0 0 (MQ below (xQ D dA s0 (some (.int ro)) T N Z I L R) args s 0 0 (fun q => s0 ≤ q)) (F0 m 0 ls []) := by
  have hx := X.1.1
  have hb := X.1.2.1
  unfold fX0_meet at hf
  refine lv_aload_n (pc := 0) hx hb dX0_meet_0 rfl (lv_at hl 0 rfl) ?_
  replace hf := tg_s hf; obtain ⟨ht1, hf⟩ := hf
  replace hf := bs hf; obtain ⟨a2, ha2, hf⟩ := hf
  refine x_get (pc := 1) X V okX0 ht1 2 (by decide) q362 (v := va_rf (R x0 2)) rfl dX0_meet_1 ?_
  refine x_topr ha2 ?_
  refine lv_iload_n (pc := 4) hx hb dX0_meet_4 rfl (lv_at hl 1 rfl) ?_
  refine lv_aload_n (pc := 5) hx hb dX0_meet_5 rfl (lv_at hl 0 rfl) ?_
  refine x_get (pc := 6) X V okX0 ht1 2 (by decide) q362 (v := va_rf (R x0 2)) rfl dX0_meet_6 ?_
  refine x_topr ha2 ?_
  replace hf := tg_s hf; obtain ⟨ht3, hf⟩ := hf
  replace hf := bs hf; obtain ⟨a4, ha4, hf⟩ := hf
  refine x_getN (pc := 9) X V okX1 ht3 1 (by decide) q224 (v := va_rf (R a2 1)) rfl dX0_meet_9 ?_
  refine x_topr ha4 ?_
  refine lv_iload_n (pc := 12) hx hb dX0_meet_12 rfl (lv_at hl 2 rfl) ?_
  replace hf := rA_s hf; obtain ⟨j5, hjj5, htj5, hij5, hf⟩ := hf
  refine x_iald (pc := 13) X V htj5 hij5 hjj5 dX0_meet_13 ?_
  replace hf := bs hf; obtain ⟨r6, hk_7, hf⟩ := hf
  refine x_callV0 (pc := 14) (As := [.int x1, .int (I a4 j5)]) (rest := []) X V (mX1_isAt l D dA s0 hk_7) okX1 ht3 q683 q684 q685 q120 q686 ⟨rfl, hsX1_isAt⟩ ⟨Nat.le_of_ble_eq_true rfl, Nat.le_of_ble_eq_true rfl⟩ rfl hl.1 rfl (Nat.le_of_ble_eq_true rfl) dX0_meet_14 ⟨Nat.zero_le _, Nat.zero_le _⟩ (fun H locs V => W.eq (g2 := F0 m 17 ls [.int r6]) rfl ?_)
  refine lv_if_ne (pc := 17) (tgt := 40) hx hb dX0_meet_17 (by decide) (fun c8 => ?_) (fun c8 => ?_)
  · replace hf := if_f hf c8
    refine lv_iconst (pc := 40) (v := (ii 1)) hx hb dX0_meet_40 (by decide) ?_
    refine lv_goto (pc := 41) (tgt := 45) hx hb dX0_meet_41 (by decide) ?_
    cases hf
    exact x_zret (pc := 45) X V hr (by decide) dX0_meet_45
  · replace hf := if_t hf c8
    refine lv_aload_n (pc := 20) hx hb dX0_meet_20 rfl (lv_at hl 0 rfl) ?_
    refine x_get (pc := 21) X V okX0 ht1 2 (by decide) q362 (v := va_rf (R x0 2)) rfl dX0_meet_21 ?_
    refine x_topr ha2 ?_
    refine lv_iload_n (pc := 24) hx hb dX0_meet_24 rfl (lv_at hl 1 rfl) ?_
    refine lv_aload_n (pc := 25) hx hb dX0_meet_25 rfl (lv_at hl 0 rfl) ?_
    refine x_get (pc := 26) X V okX0 ht1 2 (by decide) q362 (v := va_rf (R x0 2)) rfl dX0_meet_26 ?_
    refine x_topr ha2 ?_
    replace hf := bs hf; obtain ⟨a9, ha9, hf⟩ := hf
    refine x_getN (pc := 29) X V okX1 ht3 2 (by decide) q226 (v := va_rf (R a2 2)) rfl dX0_meet_29 ?_
    refine x_topr ha9 ?_
    refine lv_iload_n (pc := 32) hx hb dX0_meet_32 rfl (lv_at hl 2 rfl) ?_
    replace hf := rA_s hf; obtain ⟨j10, hjj10, htj10, hij10, hf⟩ := hf
    refine x_iald (pc := 33) X V htj10 hij10 hjj10 dX0_meet_33 ?_
    replace hf := bs hf; obtain ⟨r11, hk_12, hf⟩ := hf
    refine x_callV0 (pc := 34) (As := [.int x1, .int (I a9 j10)]) (rest := []) X V (mX1_isAt l D dA s0 hk_12) okX1 ht3 q683 q684 q685 q120 q686 ⟨rfl, hsX1_isAt⟩ ⟨Nat.le_of_ble_eq_true rfl, Nat.le_of_ble_eq_true rfl⟩ rfl hl.1 rfl (Nat.le_of_ble_eq_true rfl) dX0_meet_34 ⟨Nat.zero_le _, Nat.zero_le _⟩ (fun H locs V => W.eq (g2 := F0 m 37 ls [.int r11]) rfl ?_)
    refine lv_if_eq (pc := 37) (tgt := 44) hx hb dX0_meet_37 (by decide) (fun c13 => ?_) (fun c13 => ?_)
    · replace hf := if_t hf c13
      refine lv_iconst (pc := 44) (v := (ii 0)) hx hb dX0_meet_44 (by decide) ?_
      cases hf
      exact x_zret (pc := 45) X V hr (by decide) dX0_meet_45
    · replace hf := if_f hf c13
      refine lv_iconst (pc := 40) (v := (ii 1)) hx hb dX0_meet_40 (by decide) ?_
      refine lv_goto (pc := 41) (tgt := 45) hx hb dX0_meet_41 (by decide) ?_
      cases hf
      exact x_zret (pc := 45) X V hr (by decide) dX0_meet_45
theorem mX0_meet (l : Launch) (D : va_G) (dA : Nat → ClassId) (s0 : Nat) {T : xT} {N : xT} {Z : Nat} {I : xI} {L : xL} {R : xR} {x0 : Nat} {x1 : Int32} {x2 : Int32} {ro : Int32} (hf : fX0_meet T N I R x0 x1 x2 = some ro) : XMet l D dA s0 yX0_meet (ws_ yX0_meet cX0_meet 3 ((some .boolean))) (1) (22) [.ref x0, .int x1, .int x2] T N Z I L R (some (.int ro)) T N Z I L R 0 0 :=
  x_start (own := RX0) rfl (by decide) (Nat.le_of_ble_eq_true rfl) (lv := [(0, .ref x0), (1, .int x1), (2, .int x2)]) rfl (fun p e s m below meth c ls X hr hini V hl => wX0_meet_e X hr hf V hl)
set_option maxHeartbeats 400000 in
set_option maxRecDepth 100000 in
theorem wX0_colours_b26 {nf : Nat} {fd ld : Nat} {rc : xT → xT → xI → xR → Nat → Int32 → Int32 → Option (Int32 × xI)} {p : Program} {l : Launch} {e : Env} {s : State} {m : MethodId} {args : Array Value} {below : List Frame} {meth : Method} {c : Code} {D : va_G} {dA : Nat → ClassId} {s0 : Nat} {T : xT} {N : xT} {Z : Nat} {L : xL} {R : xR} {kk15 : xI → Nat → Int32 → Int32 → Int32 → Option (Int32 × xI)} {ro : Int32} {Io : xI} (X : Cx D dA s0 p m c cX0_colours 6 s args RX0 meth) (hr : meth.sig.returnType = (some .boolean)) (hrc : Con_X0_colours l D dA s0 fd ld rc) (hk15 : ∀ {I : xI} {x0 : Nat} {x1 : Int32} {x2 : Int32} {x3 : Int32} {H : Heap} {locs : List Loc} {ls : Array Slot} , kk15 I x0 x1 x2 x3 = some (ro, Io) → Iv D dA s0 s T N Z I L R H locs → lv_has ls 6 [(0, .ref x0), (1, .int x1), (2, .int x2), (3, .int x3)] → W p l e { frames := fd + 2, cells := 0, slots := 0, locals := ld + 60 } s m args below meth c H locs 0 0 (MQ below (xQ D dA s0 (some (.int ro)) T N Z Io L R) args s 0 0 (fun q => s0 ≤ q)) (F0 m 15 ls []))  (k : Nat) : ∀ {I : xI} {x0 : Nat} {x1 : Int32} {x2 : Int32} {x3 : Int32} {x4 : Int32} {x5 : Int32} {H : Heap} {locs : List Loc} {ls : Array Slot} , fX0_colours_b26 nf rc kk15 T N R k I x0 x1 x2 x3 x4 x5 = some (ro, Io) → Iv D dA s0 s T N Z I L R H locs → lv_has ls 6 [(0, .ref x0), (1, .int x1), (2, .int x2), (3, .int x3), (4, .int x4), (5, .int x5)] → W p l e { frames := fd + 2, cells := 0, slots := 0, locals := ld + 60 } s m args below meth c H locs 0 0 (MQ below (xQ D dA s0 (some (.int ro)) T N Z Io L R) args s 0 0 (fun q => s0 ≤ q)) (F0 m 26 ls []) := by
  have hx := X.1.1
  have hb := X.1.2.1
  induction k with
  | zero =>
    intro I x0 x1 x2 x3 x4 x5 H locs ls hf V hl
    exact absurd (show none = some _ from hf) (fun q => nomatch q)
  | succ k ih =>
    intro I x0 x1 x2 x3 x4 x5 H locs ls hf V hl
    rw [fX0_colours_b26] at hf
    refine lv_iload (pc := 26) hx hb dX0_colours_26 (lv_at hl 5 rfl) ?_
    refine lv_iload_n (pc := 28) hx hb dX0_colours_28 rfl (lv_at hl 1 rfl) ?_
    refine lv_icmp_ge (pc := 29) (tgt := 69) hx hb dX0_colours_29 (by decide) (fun c1 => ?_) (fun c1 => ?_)
    · replace hf := if_t hf c1
      refine lv_iload (pc := 69) hx hb dX0_colours_69 (lv_at hl 4 rfl) ?_
      refine lv_if_ne (pc := 71) (tgt := 77) hx hb dX0_colours_71 (by decide) (fun c2 => ?_) (fun c2 => ?_)
      · replace hf := if_f hf c2
        refine lv_aload_n (pc := 77) hx hb dX0_colours_77 rfl (lv_at hl 0 rfl) ?_
        replace hf := tg_s hf; obtain ⟨ht3, hf⟩ := hf
        replace hf := bs hf; obtain ⟨a4, ha4, hf⟩ := hf
        refine x_get (pc := 78) X V okX0 ht3 22 (by decide) q382 (v := va_rf (R x0 22)) rfl dX0_colours_78 ?_
        refine x_topr ha4 ?_
        refine lv_iload_n (pc := 81) hx hb dX0_colours_81 rfl (lv_at hl 1 rfl) ?_
        refine lv_iload_n (pc := 82) hx hb dX0_colours_82 rfl (lv_at hl 3 rfl) ?_
        replace hf := rA_s hf; obtain ⟨j5, hjj5, htj5, hij5, hf⟩ := hf
        replace hf := nm_s hf; obtain ⟨I6, hI6, hf⟩ := hf
        refine x_iast (pc := 83) X V htj5 hij5 hjj5 hI6 dX0_colours_83 (fun H locs V => ?_)
        refine lv_aload_n (pc := 84) hx hb dX0_colours_84 rfl (lv_at hl 0 rfl) ?_
        refine lv_iload_n (pc := 85) hx hb dX0_colours_85 rfl (lv_at hl 1 rfl) ?_
        refine lv_iconst (pc := 86) (v := (ii 1)) hx hb dX0_colours_86 (by decide) ?_
        refine lv_iadd (pc := 87) hx hb dX0_colours_87 ?_
        refine lv_iload_n (pc := 88) hx hb dX0_colours_88 rfl (lv_at hl 2 rfl) ?_
        replace hf := b2s hf; obtain ⟨r7, I8, hk_9, hf⟩ := hf
        refine x_callV0 (pc := 89) (As := [.int (x1 + (ii 1)), .int x2]) (rest := []) X V (hrc hk_9) okX0 ht3 q1376 q1378 qs37 q119 q1379 ⟨rfl, hsX0_colours⟩ ⟨by dsimp only; omega, by dsimp only; omega⟩ rfl hl.1 rfl (Nat.le_of_ble_eq_true rfl) dX0_colours_89 ⟨Nat.zero_le _, Nat.zero_le _⟩ (fun H locs V => W.eq (g2 := F0 m 92 ls [.int r7]) rfl ?_)
        refine lv_if_eq (pc := 92) (tgt := 97) hx hb dX0_colours_92 (by decide) (fun c10 => ?_) (fun c10 => ?_)
        · replace hf := if_t hf c10
          replace hf := nm_s hf; obtain ⟨u11, hu11, hf⟩ := hf
          refine lv_iinc (pc := 97) (v := u11) (lv' := [(3, .int u11), (0, .ref x0), (1, .int x1), (2, .int x2), (4, .int x4), (5, .int x5)]) hx hb dX0_colours_97 hl (k := 3) rfl (by rw [hu11]; rfl) (by decide) rfl (fun ls hl => ?_)
          refine lv_goto (pc := 100) (tgt := 15) hx hb dX0_colours_100 (by decide) ?_
          exact hk15 hf V (lv_sub hl [1, 2, 3, 0] rfl)
        · replace hf := if_f hf c10
          refine lv_iconst (pc := 95) (v := (ii 1)) hx hb dX0_colours_95 (by decide) ?_
          cases hf
          exact x_zret (pc := 96) X V hr (by decide) dX0_colours_96
      · replace hf := if_t hf c2
        refine lv_goto (pc := 74) (tgt := 97) hx hb dX0_colours_74 (by decide) ?_
        replace hf := nm_s hf; obtain ⟨u12, hu12, hf⟩ := hf
        refine lv_iinc (pc := 97) (v := u12) (lv' := [(3, .int u12), (0, .ref x0), (1, .int x1), (2, .int x2), (4, .int x4), (5, .int x5)]) hx hb dX0_colours_97 hl (k := 3) rfl (by rw [hu12]; rfl) (by decide) rfl (fun ls hl => ?_)
        refine lv_goto (pc := 100) (tgt := 15) hx hb dX0_colours_100 (by decide) ?_
        exact hk15 hf V (lv_sub hl [1, 2, 3, 0] rfl)
    · replace hf := if_f hf c1
      refine lv_iload (pc := 32) hx hb dX0_colours_32 (lv_at hl 4 rfl) ?_
      refine lv_aload_n (pc := 34) hx hb dX0_colours_34 rfl (lv_at hl 0 rfl) ?_
      replace hf := tg_s hf; obtain ⟨ht13, hf⟩ := hf
      replace hf := bs hf; obtain ⟨a14, ha14, hf⟩ := hf
      refine x_get (pc := 35) X V okX0 ht13 22 (by decide) q382 (v := va_rf (R x0 22)) rfl dX0_colours_35 ?_
      refine x_topr ha14 ?_
      refine lv_iload (pc := 38) hx hb dX0_colours_38 (lv_at hl 5 rfl) ?_
      replace hf := rA_s hf; obtain ⟨j15, hjj15, htj15, hij15, hf⟩ := hf
      refine x_iald (pc := 40) X V htj15 hij15 hjj15 dX0_colours_40 ?_
      refine lv_iload_n (pc := 41) hx hb dX0_colours_41 rfl (lv_at hl 3 rfl) ?_
      refine lv_icmp_ne (pc := 42) (tgt := 55) hx hb dX0_colours_42 (by decide) (fun c16 => ?_) (fun c16 => ?_)
      · replace hf := if_f hf c16
        refine lv_iconst (pc := 55) (v := (ii 1)) hx hb dX0_colours_55 (by decide) ?_
        refine lv_goto (pc := 56) (tgt := 60) hx hb dX0_colours_56 (by decide) ?_
        refine lv_iand (pc := 60) hx hb dX0_colours_60 ?_
        replace hf := nm_s hf; obtain ⟨u17, hu17, hf⟩ := hf
        refine x_topi hu17 ?_
        refine lv_istore (pc := 61) (lv' := [(4, .int u17), (0, .ref x0), (1, .int x1), (2, .int x2), (3, .int x3), (5, .int x5)]) hx hb dX0_colours_61 hl (by decide) rfl (fun ls hl => ?_)
        replace hf := nm_s hf; obtain ⟨u18, hu18, hf⟩ := hf
        refine lv_iinc (pc := 63) (v := u18) (lv' := [(5, .int u18), (4, .int u17), (0, .ref x0), (1, .int x1), (2, .int x2), (3, .int x3)]) hx hb dX0_colours_63 hl (k := 5) rfl (by rw [hu18]; rfl) (by decide) rfl (fun ls hl => ?_)
        refine lv_goto (pc := 66) (tgt := 26) hx hb dX0_colours_66 (by decide) ?_
        exact ih hf V (lv_sub hl [2, 3, 4, 5, 1, 0] rfl)
      · replace hf := if_t hf c16
        refine lv_aload_n (pc := 45) hx hb dX0_colours_45 rfl (lv_at hl 0 rfl) ?_
        refine lv_iload (pc := 46) hx hb dX0_colours_46 (lv_at hl 5 rfl) ?_
        refine lv_iload_n (pc := 48) hx hb dX0_colours_48 rfl (lv_at hl 1 rfl) ?_
        replace hf := bs hf; obtain ⟨r19, hk_20, hf⟩ := hf
        refine x_callV0 (pc := 49) (As := [.int x5, .int x1]) (rest := [.int x4]) X V (mX0_meet l D dA s0 hk_20) okX0 ht13 q1380 q1382 qs38 q119 q1383 ⟨rfl, hsX0_meet⟩ ⟨by dsimp only; omega, by dsimp only; omega⟩ rfl hl.1 rfl (Nat.le_of_ble_eq_true rfl) dX0_colours_49 ⟨Nat.zero_le _, Nat.zero_le _⟩ (fun H locs V => W.eq (g2 := F0 m 52 ls [.int r19, .int x4]) rfl ?_)
        refine lv_if_ne (pc := 52) (tgt := 59) hx hb dX0_colours_52 (by decide) (fun c21 => ?_) (fun c21 => ?_)
        · replace hf := if_f hf c21
          refine lv_iconst (pc := 59) (v := (ii 0)) hx hb dX0_colours_59 (by decide) ?_
          refine lv_iand (pc := 60) hx hb dX0_colours_60 ?_
          replace hf := nm_s hf; obtain ⟨u22, hu22, hf⟩ := hf
          refine x_topi hu22 ?_
          refine lv_istore (pc := 61) (lv' := [(4, .int u22), (0, .ref x0), (1, .int x1), (2, .int x2), (3, .int x3), (5, .int x5)]) hx hb dX0_colours_61 hl (by decide) rfl (fun ls hl => ?_)
          replace hf := nm_s hf; obtain ⟨u23, hu23, hf⟩ := hf
          refine lv_iinc (pc := 63) (v := u23) (lv' := [(5, .int u23), (4, .int u22), (0, .ref x0), (1, .int x1), (2, .int x2), (3, .int x3)]) hx hb dX0_colours_63 hl (k := 5) rfl (by rw [hu23]; rfl) (by decide) rfl (fun ls hl => ?_)
          refine lv_goto (pc := 66) (tgt := 26) hx hb dX0_colours_66 (by decide) ?_
          exact ih hf V (lv_sub hl [2, 3, 4, 5, 1, 0] rfl)
        · replace hf := if_t hf c21
          refine lv_iconst (pc := 55) (v := (ii 1)) hx hb dX0_colours_55 (by decide) ?_
          refine lv_goto (pc := 56) (tgt := 60) hx hb dX0_colours_56 (by decide) ?_
          refine lv_iand (pc := 60) hx hb dX0_colours_60 ?_
          replace hf := nm_s hf; obtain ⟨u24, hu24, hf⟩ := hf
          refine x_topi hu24 ?_
          refine lv_istore (pc := 61) (lv' := [(4, .int u24), (0, .ref x0), (1, .int x1), (2, .int x2), (3, .int x3), (5, .int x5)]) hx hb dX0_colours_61 hl (by decide) rfl (fun ls hl => ?_)
          replace hf := nm_s hf; obtain ⟨u25, hu25, hf⟩ := hf
          refine lv_iinc (pc := 63) (v := u25) (lv' := [(5, .int u25), (4, .int u24), (0, .ref x0), (1, .int x1), (2, .int x2), (3, .int x3)]) hx hb dX0_colours_63 hl (k := 5) rfl (by rw [hu25]; rfl) (by decide) rfl (fun ls hl => ?_)
          refine lv_goto (pc := 66) (tgt := 26) hx hb dX0_colours_66 (by decide) ?_
          exact ih hf V (lv_sub hl [2, 3, 4, 5, 1, 0] rfl)
set_option maxHeartbeats 400000 in
set_option maxRecDepth 100000 in
theorem wX0_colours_b15 {nf : Nat} {fd ld : Nat} {rc : xT → xT → xI → xR → Nat → Int32 → Int32 → Option (Int32 × xI)} {p : Program} {l : Launch} {e : Env} {s : State} {m : MethodId} {args : Array Value} {below : List Frame} {meth : Method} {c : Code} {D : va_G} {dA : Nat → ClassId} {s0 : Nat} {T : xT} {N : xT} {Z : Nat} {L : xL} {R : xR}  {ro : Int32} {Io : xI} (X : Cx D dA s0 p m c cX0_colours 6 s args RX0 meth) (hr : meth.sig.returnType = (some .boolean)) (hrc : Con_X0_colours l D dA s0 fd ld rc)   (k : Nat) : ∀ {I : xI} {x0 : Nat} {x1 : Int32} {x2 : Int32} {x3 : Int32} {H : Heap} {locs : List Loc} {ls : Array Slot} , fX0_colours_b15 nf rc T N R k I x0 x1 x2 x3 = some (ro, Io) → Iv D dA s0 s T N Z I L R H locs → lv_has ls 6 [(0, .ref x0), (1, .int x1), (2, .int x2), (3, .int x3)] → W p l e { frames := fd + 2, cells := 0, slots := 0, locals := ld + 60 } s m args below meth c H locs 0 0 (MQ below (xQ D dA s0 (some (.int ro)) T N Z Io L R) args s 0 0 (fun q => s0 ≤ q)) (F0 m 15 ls []) := by
  have hx := X.1.1
  have hb := X.1.2.1
  induction k with
  | zero =>
    intro I x0 x1 x2 x3 H locs ls hf V hl
    exact absurd (show none = some _ from hf) (fun q => nomatch q)
  | succ k ih =>
    intro I x0 x1 x2 x3 H locs ls hf V hl
    rw [fX0_colours_b15] at hf
    refine lv_iload_n (pc := 15) hx hb dX0_colours_15 rfl (lv_at hl 3 rfl) ?_
    refine lv_iload_n (pc := 16) hx hb dX0_colours_16 rfl (lv_at hl 2 rfl) ?_
    refine lv_icmp_ge (pc := 17) (tgt := 103) hx hb dX0_colours_17 (by decide) (fun c1 => ?_) (fun c1 => ?_)
    · replace hf := if_t hf c1
      refine lv_iconst (pc := 103) (v := (ii 0)) hx hb dX0_colours_103 (by decide) ?_
      cases hf
      exact x_zret (pc := 104) X V hr (by decide) dX0_colours_104
    · replace hf := if_f hf c1
      refine lv_iconst (pc := 20) (v := (ii 1)) hx hb dX0_colours_20 (by decide) ?_
      refine lv_istore (pc := 21) (lv' := [(4, .int (ii 1)), (0, .ref x0), (1, .int x1), (2, .int x2), (3, .int x3)]) hx hb dX0_colours_21 hl (by decide) rfl (fun ls hl => ?_)
      refine lv_iconst (pc := 23) (v := (ii 0)) hx hb dX0_colours_23 (by decide) ?_
      refine lv_istore (pc := 24) (lv' := [(5, .int (ii 0)), (4, .int (ii 1)), (0, .ref x0), (1, .int x1), (2, .int x2), (3, .int x3)]) hx hb dX0_colours_24 hl (by decide) rfl (fun ls hl => ?_)
      exact wX0_colours_b26 X hr hrc ih nf hf V (lv_sub hl [2, 3, 4, 5, 1, 0] rfl)
set_option maxHeartbeats 400000 in
set_option maxRecDepth 100000 in
theorem wX0_colours_e {nf : Nat} {fd ld : Nat} {rc : xT → xT → xI → xR → Nat → Int32 → Int32 → Option (Int32 × xI)} {p : Program} {l : Launch} {e : Env} {s : State} {m : MethodId} {args : Array Value} {below : List Frame} {meth : Method} {c : Code} {D : va_G} {dA : Nat → ClassId} {s0 : Nat} {T : xT} {N : xT} {Z : Nat} {I : xI} {L : xL} {R : xR} {H : Heap} {locs : List Loc} {ls : Array Slot} {x0 : Nat} {x1 : Int32} {x2 : Int32} {ro : Int32} {Io : xI} (X : Cx D dA s0 p m c cX0_colours 6 s args RX0 meth) (hr : meth.sig.returnType = (some .boolean)) (hrc : Con_X0_colours l D dA s0 fd ld rc) (hf : fX0_colours_E nf rc T N I R x0 x1 x2 = some (ro, Io)) (V : Iv D dA s0 s T N Z I L R H locs) (hl : lv_has ls 6 [(0, .ref x0), (1, .int x1), (2, .int x2)]) : W p l e { frames := fd + 2, cells := 0, slots := 0, locals := ld + 60 } s m args below meth c H locs 0 0 (MQ below (xQ D dA s0 (some (.int ro)) T N Z Io L R) args s 0 0 (fun q => s0 ≤ q)) (F0 m 0 ls []) := by
  have hx := X.1.1
  have hb := X.1.2.1
  unfold fX0_colours_E at hf
  refine lv_iload_n (pc := 0) hx hb dX0_colours_0 rfl (lv_at hl 1 rfl) ?_
  refine lv_aload_n (pc := 1) hx hb dX0_colours_1 rfl (lv_at hl 0 rfl) ?_
  replace hf := tg_s hf; obtain ⟨ht1, hf⟩ := hf
  replace hf := bs hf; obtain ⟨a2, ha2, hf⟩ := hf
  refine x_get (pc := 2) X V okX0 ht1 2 (by decide) q362 (v := va_rf (R x0 2)) rfl dX0_colours_2 ?_
  refine x_topr ha2 ?_
  replace hf := tg_s hf; obtain ⟨ht3, hf⟩ := hf
  refine x_getN (pc := 5) X V okX1 ht3 8 (by decide) q238 (v := .int (I a2 8)) rfl dX0_colours_5 ?_
  refine lv_icmp_ne (pc := 8) (tgt := 13) hx hb dX0_colours_8 (by decide) (fun c4 => ?_) (fun c4 => ?_)
  · replace hf := if_f hf c4
    refine lv_iconst (pc := 13) (v := (ii 0)) hx hb dX0_colours_13 (by decide) ?_
    refine lv_istore_n (pc := 14) (lv' := [(3, .int (ii 0)), (0, .ref x0), (1, .int x1), (2, .int x2)]) hx hb dX0_colours_14 rfl hl (by decide) rfl (fun ls hl => ?_)
    exact wX0_colours_b15 X hr hrc nf hf V (lv_sub hl [1, 2, 3, 0] rfl)
  · replace hf := if_t hf c4
    refine lv_iconst (pc := 11) (v := (ii 1)) hx hb dX0_colours_11 (by decide) ?_
    cases hf
    exact x_zret (pc := 12) X V hr (by decide) dX0_colours_12
theorem mX0_colours_E {nf : Nat} {fd ld : Nat} {rc : xT → xT → xI → xR → Nat → Int32 → Int32 → Option (Int32 × xI)} (l : Launch) (D : va_G) (dA : Nat → ClassId) (s0 : Nat) {T : xT} {N : xT} {Z : Nat} {I : xI} {L : xL} {R : xR} {x0 : Nat} {x1 : Int32} {x2 : Int32} {ro : Int32} {Io : xI} (hrc : Con_X0_colours l D dA s0 fd ld rc) (hf : fX0_colours_E nf rc T N I R x0 x1 x2 = some (ro, Io)) : XMet l D dA s0 yX0_colours (ws_ yX0_colours cX0_colours 6 ((some .boolean))) (fd + 2) (ld + 60) [.ref x0, .int x1, .int x2] T N Z I L R (some (.int ro)) T N Z Io L R 0 0 :=
  x_start (own := RX0) rfl (by decide) (Nat.le_of_ble_eq_true rfl) (lv := [(0, .ref x0), (1, .int x1), (2, .int x2)]) rfl (fun p e s m below meth c ls X hr hini V hl => wX0_colours_e X hr hrc hf V hl)
theorem mX0_colours {nf : Nat} (l : Launch) (D : va_G) (dA : Nat → ClassId) (s0 : Nat) (d : Nat) : Con_X0_colours l D dA s0 (2 * d) (60 * d) (fX0_colours nf d) := by
  induction d with
  | zero =>
    intro T N Z I L R x0 x1 x2 ro Io hf
    exact absurd (show none = some _ from hf) (fun q => nomatch q)
  | succ d ih =>
    intro T N Z I L R x0 x1 x2 ro Io hf
    exact mX0_colours_E l D dA s0 ih hf
set_option maxHeartbeats 400000 in
set_option maxRecDepth 100000 in
theorem wX0_apart_b19 {nf : Nat} {p : Program} {l : Launch} {e : Env} {s : State} {m : MethodId} {args : Array Value} {below : List Frame} {meth : Method} {c : Code} {D : va_G} {dA : Nat → ClassId} {s0 : Nat} {T : xT} {N : xT} {Z : Nat} {L : xL} {R : xR}  {ro : Int32} {Io : xI} (X : Cx D dA s0 p m c cX0_apart 3 s args RX0 meth) (hr : meth.sig.returnType = (some .int))   (k : Nat) : ∀ {I : xI} {x0 : Nat} {x1 : Int32} {x2 : Int32} {H : Heap} {locs : List Loc} {ls : Array Slot} , fX0_apart_b19 nf T N R k I x0 x1 x2 = some (ro, Io) → Iv D dA s0 s T N Z I L R H locs → lv_has ls 3 [(0, .ref x0), (1, .int x1), (2, .int x2)] → W p l e { frames := 25, cells := 0, slots := 0, locals := 745 } s m args below meth c H locs 0 0 (MQ below (xQ D dA s0 (some (.int ro)) T N Z Io L R) args s 0 0 (fun q => s0 ≤ q)) (F0 m 19 ls []) := by
  have hx := X.1.1
  have hb := X.1.2.1
  induction k with
  | zero =>
    intro I x0 x1 x2 H locs ls hf V hl
    exact absurd (show none = some _ from hf) (fun q => nomatch q)
  | succ k ih =>
    intro I x0 x1 x2 H locs ls hf V hl
    rw [fX0_apart_b19] at hf
    refine lv_aload_n (pc := 19) hx hb dX0_apart_19 rfl (lv_at hl 0 rfl) ?_
    refine lv_iconst (pc := 20) (v := (ii 0)) hx hb dX0_apart_20 (by decide) ?_
    refine lv_iload_n (pc := 21) hx hb dX0_apart_21 rfl (lv_at hl 2 rfl) ?_
    replace hf := tg_s hf; obtain ⟨ht4, hf⟩ := hf
    replace hf := b2s hf; obtain ⟨r1, I2, hk_3, hf⟩ := hf
    refine x_callV0 (pc := 22) (As := [.int (ii 0), .int x2]) (rest := []) X V (mX0_colours l D dA s0 12 hk_3) okX0 ht4 q1376 q1378 qs37 q119 q1379 ⟨rfl, hsX0_colours⟩ ⟨Nat.le_of_ble_eq_true rfl, Nat.le_of_ble_eq_true rfl⟩ rfl hl.1 rfl (Nat.le_of_ble_eq_true rfl) dX0_apart_22 ⟨Nat.zero_le _, Nat.zero_le _⟩ (fun H locs V => W.eq (g2 := F0 m 25 ls [.int r1]) rfl ?_)
    refine lv_if_ne (pc := 25) (tgt := 34) hx hb dX0_apart_25 (by decide) (fun c5 => ?_) (fun c5 => ?_)
    · replace hf := if_f hf c5
      refine lv_iload_n (pc := 34) hx hb dX0_apart_34 rfl (lv_at hl 1 rfl) ?_
      refine lv_if_ne (pc := 35) (tgt := 42) hx hb dX0_apart_35 (by decide) (fun c6 => ?_) (fun c6 => ?_)
      · replace hf := if_f hf c6
        refine lv_aload_n (pc := 42) hx hb dX0_apart_42 rfl (lv_at hl 0 rfl) ?_
        replace hf := bs hf; obtain ⟨a7, ha7, hf⟩ := hf
        refine x_get (pc := 43) X V okX0 ht4 22 (by decide) q382 (v := va_rf (R x0 22)) rfl dX0_apart_43 ?_
        refine x_topr ha7 ?_
        refine lv_iload_n (pc := 46) hx hb dX0_apart_46 rfl (lv_at hl 1 rfl) ?_
        refine lv_iconst (pc := 47) (v := (ii 1)) hx hb dX0_apart_47 (by decide) ?_
        refine lv_isub (pc := 48) hx hb dX0_apart_48 ?_
        replace hf := rA_s hf; obtain ⟨j8, hjj8, htj8, hij8, hf⟩ := hf
        refine x_iald (pc := 49) X V htj8 hij8 hjj8 dX0_apart_49 ?_
        cases hf
        exact x_iret (pc := 50) X V hr dX0_apart_50
      · replace hf := if_t hf c6
        refine lv_iload_n (pc := 38) hx hb dX0_apart_38 rfl (lv_at hl 2 rfl) ?_
        refine lv_goto (pc := 39) (tgt := 50) hx hb dX0_apart_39 (by decide) ?_
        cases hf
        exact x_iret (pc := 50) X V hr dX0_apart_50
    · replace hf := if_t hf c5
      replace hf := nm_s hf; obtain ⟨u9, hu9, hf⟩ := hf
      refine lv_iinc (pc := 28) (v := u9) (lv' := [(2, .int u9), (0, .ref x0), (1, .int x1)]) hx hb dX0_apart_28 hl (k := 2) rfl (by rw [hu9]; rfl) (by decide) rfl (fun ls hl => ?_)
      refine lv_goto (pc := 31) (tgt := 19) hx hb dX0_apart_31 (by decide) ?_
      exact ih hf V (lv_sub hl [1, 2, 0] rfl)
set_option maxHeartbeats 400000 in
set_option maxRecDepth 100000 in
theorem wX0_apart_e {nf : Nat} {p : Program} {l : Launch} {e : Env} {s : State} {m : MethodId} {args : Array Value} {below : List Frame} {meth : Method} {c : Code} {D : va_G} {dA : Nat → ClassId} {s0 : Nat} {T : xT} {N : xT} {Z : Nat} {I : xI} {L : xL} {R : xR} {H : Heap} {locs : List Loc} {ls : Array Slot} {x0 : Nat} {x1 : Int32} {ro : Int32} {Io : xI} (X : Cx D dA s0 p m c cX0_apart 3 s args RX0 meth) (hr : meth.sig.returnType = (some .int)) (hf : fX0_apart nf T N I R x0 x1 = some (ro, Io)) (V : Iv D dA s0 s T N Z I L R H locs) (hl : lv_has ls 3 [(0, .ref x0), (1, .int x1)]) : W p l e { frames := 25, cells := 0, slots := 0, locals := 745 } s m args below meth c H locs 0 0 (MQ below (xQ D dA s0 (some (.int ro)) T N Z Io L R) args s 0 0 (fun q => s0 ≤ q)) (F0 m 0 ls []) := by
  have hx := X.1.1
  have hb := X.1.2.1
  unfold fX0_apart at hf
  refine lv_iload_n (pc := 0) hx hb dX0_apart_0 rfl (lv_at hl 1 rfl) ?_
  refine lv_iconst (pc := 1) (v := (ii 0)) hx hb dX0_apart_1 (by decide) ?_
  refine lv_aload_n (pc := 2) hx hb dX0_apart_2 rfl (lv_at hl 0 rfl) ?_
  replace hf := tg_s hf; obtain ⟨ht1, hf⟩ := hf
  replace hf := bs hf; obtain ⟨a2, ha2, hf⟩ := hf
  refine x_get (pc := 3) X V okX0 ht1 2 (by decide) q362 (v := va_rf (R x0 2)) rfl dX0_apart_3 ?_
  refine x_topr ha2 ?_
  replace hf := tg_s hf; obtain ⟨ht3, hf⟩ := hf
  refine x_getN (pc := 6) X V okX1 ht3 8 (by decide) q238 (v := .int (I a2 8)) rfl dX0_apart_6 ?_
  replace hf := bs hf; obtain ⟨r4, hk_5, hf⟩ := hf
  refine x_callS0 (pc := 9) (As := [.int x1, .int (ii 0), .int (I a2 8)]) (rest := []) X V (mX0_in l D dA s0 hk_5) q449 q450 q119 q451 hsX0_in ⟨Nat.le_of_ble_eq_true rfl, Nat.le_of_ble_eq_true rfl⟩ rfl hl.1 rfl (Nat.le_of_ble_eq_true rfl) dX0_apart_9 ⟨Nat.zero_le _, Nat.zero_le _⟩ (fun H locs V => W.eq (g2 := F0 m 12 ls [.int r4]) rfl ?_)
  refine lv_if_ne (pc := 12) (tgt := 17) hx hb dX0_apart_12 (by decide) (fun c6 => ?_) (fun c6 => ?_)
  · replace hf := if_f hf c6
    refine lv_iconst (pc := 17) (v := (ii 0)) hx hb dX0_apart_17 (by decide) ?_
    refine lv_istore_n (pc := 18) (lv' := [(2, .int (ii 0)), (0, .ref x0), (1, .int x1)]) hx hb dX0_apart_18 rfl hl (by decide) rfl (fun ls hl => ?_)
    exact wX0_apart_b19 X hr nf hf V (lv_sub hl [1, 2, 0] rfl)
  · replace hf := if_t hf c6
    refine lv_iconst (pc := 15) (v := (-1 : Int32)) hx hb dX0_apart_15 (by decide) ?_
    cases hf
    exact x_iret (pc := 16) X V hr dX0_apart_16
theorem mX0_apart {nf : Nat} (l : Launch) (D : va_G) (dA : Nat → ClassId) (s0 : Nat) {T : xT} {N : xT} {Z : Nat} {I : xI} {L : xL} {R : xR} {x0 : Nat} {x1 : Int32} {ro : Int32} {Io : xI} (hf : fX0_apart nf T N I R x0 x1 = some (ro, Io)) : XMet l D dA s0 yX0_apart (ws_ yX0_apart cX0_apart 3 ((some .int))) (25) (745) [.ref x0, .int x1] T N Z I L R (some (.int ro)) T N Z Io L R 0 0 :=
  x_start (own := RX0) rfl (by decide) (Nat.le_of_ble_eq_true rfl) (lv := [(0, .ref x0), (1, .int x1)]) rfl (fun p e s m below meth c ls X hr hini V hl => wX0_apart_e X hr hf V hl)
set_option maxHeartbeats 400000 in
set_option maxRecDepth 100000 in
theorem wX0_alike_b19 {nf : Nat} {p : Program} {l : Launch} {e : Env} {s : State} {m : MethodId} {args : Array Value} {below : List Frame} {meth : Method} {c : Code} {D : va_G} {dA : Nat → ClassId} {s0 : Nat} {T : xT} {N : xT} {Z : Nat} {I : xI} {L : xL} {R : xR} {kk4 : Nat → Int32 → Int32 → Option (Int32)} {ro : Int32} (X : Cx D dA s0 p m c cX0_alike 4 s args RX0 meth) (hr : meth.sig.returnType = (some .int)) (hk4 : ∀ {x0 : Nat} {x1 : Int32} {x2 : Int32} {H : Heap} {locs : List Loc} {ls : Array Slot} , kk4 x0 x1 x2 = some ro → Iv D dA s0 s T N Z I L R H locs → lv_has ls 4 [(0, .ref x0), (1, .int x1), (2, .int x2)] → W p l e { frames := 2, cells := 0, slots := 0, locals := 44 } s m args below meth c H locs 0 0 (MQ below (xQ D dA s0 (some (.int ro)) T N Z I L R) args s 0 0 (fun q => s0 ≤ q)) (F0 m 4 ls []))  (k : Nat) : ∀ {x0 : Nat} {x1 : Int32} {x2 : Int32} {x3 : Int32} {H : Heap} {locs : List Loc} {ls : Array Slot} , fX0_alike_b19 nf kk4 T N I R k x0 x1 x2 x3 = some ro → Iv D dA s0 s T N Z I L R H locs → lv_has ls 4 [(0, .ref x0), (1, .int x1), (2, .int x2), (3, .int x3)] → W p l e { frames := 2, cells := 0, slots := 0, locals := 44 } s m args below meth c H locs 0 0 (MQ below (xQ D dA s0 (some (.int ro)) T N Z I L R) args s 0 0 (fun q => s0 ≤ q)) (F0 m 19 ls []) := by
  have hx := X.1.1
  have hb := X.1.2.1
  induction k with
  | zero =>
    intro x0 x1 x2 x3 H locs ls hf V hl
    exact absurd (show none = some _ from hf) (fun q => nomatch q)
  | succ k ih =>
    intro x0 x1 x2 x3 H locs ls hf V hl
    rw [fX0_alike_b19] at hf
    refine lv_iload_n (pc := 19) hx hb dX0_alike_19 rfl (lv_at hl 3 rfl) ?_
    refine lv_aload_n (pc := 20) hx hb dX0_alike_20 rfl (lv_at hl 0 rfl) ?_
    replace hf := tg_s hf; obtain ⟨ht1, hf⟩ := hf
    replace hf := bs hf; obtain ⟨a2, ha2, hf⟩ := hf
    refine x_get (pc := 21) X V okX0 ht1 2 (by decide) q362 (v := va_rf (R x0 2)) rfl dX0_alike_21 ?_
    refine x_topr ha2 ?_
    replace hf := tg_s hf; obtain ⟨ht3, hf⟩ := hf
    refine x_getN (pc := 24) X V okX1 ht3 8 (by decide) q238 (v := .int (I a2 8)) rfl dX0_alike_24 ?_
    refine lv_icmp_ge (pc := 27) (tgt := 87) hx hb dX0_alike_27 (by decide) (fun c4 => ?_) (fun c4 => ?_)
    · replace hf := if_t hf c4
      replace hf := nm_s hf; obtain ⟨u5, hu5, hf⟩ := hf
      refine lv_iinc (pc := 87) (v := u5) (lv' := [(2, .int u5), (0, .ref x0), (1, .int x1), (3, .int x3)]) hx hb dX0_alike_87 hl (k := 2) rfl (by rw [hu5]; rfl) (by decide) rfl (fun ls hl => ?_)
      refine lv_goto (pc := 90) (tgt := 4) hx hb dX0_alike_90 (by decide) ?_
      exact hk4 hf V (lv_sub hl [1, 2, 0] rfl)
    · replace hf := if_f hf c4
      refine lv_iload_n (pc := 30) hx hb dX0_alike_30 rfl (lv_at hl 1 rfl) ?_
      refine lv_aload_n (pc := 31) hx hb dX0_alike_31 rfl (lv_at hl 0 rfl) ?_
      replace hf := bs hf; obtain ⟨r6, hk_7, hf⟩ := hf
      refine x_callV0 (pc := 32) (As := []) (rest := [.int x1]) X V (mX0_table l D dA s0 hk_7) okX0 ht1 q568 q570 qs6 q119 q571 ⟨rfl, hsX0_table⟩ ⟨Nat.le_of_ble_eq_true rfl, Nat.le_of_ble_eq_true rfl⟩ rfl hl.1 rfl (Nat.le_of_ble_eq_true rfl) dX0_alike_32 ⟨Nat.zero_le _, Nat.zero_le _⟩ (fun H locs V => W.eq (g2 := F0 m 35 ls [.ref r6, .int x1]) rfl ?_)
      replace hf := tg_s hf; obtain ⟨ht8, hf⟩ := hf
      replace hf := bs hf; obtain ⟨a9, ha9, hf⟩ := hf
      refine x_getN (pc := 35) X V okX2 ht8 2 (by decide) q180 (v := va_rf (R r6 2)) rfl dX0_alike_35 ?_
      refine x_topr ha9 ?_
      refine lv_iload_n (pc := 38) hx hb dX0_alike_38 rfl (lv_at hl 2 rfl) ?_
      replace hf := rA_s hf; obtain ⟨j10, hjj10, htj10, hij10, hf⟩ := hf
      refine x_iald (pc := 39) X V htj10 hij10 hjj10 dX0_alike_39 ?_
      refine lv_iconst (pc := 40) (v := (-1 : Int32)) hx hb dX0_alike_40 (by decide) ?_
      refine lv_icmp_eq (pc := 41) (tgt := 78) hx hb dX0_alike_41 (by decide) (fun c11 => ?_) (fun c11 => ?_)
      · replace hf := if_t hf c11
        refine lv_iconst (pc := 78) (v := (ii 0)) hx hb dX0_alike_78 (by decide) ?_
        refine lv_iadd (pc := 79) hx hb dX0_alike_79 ?_
        replace hf := nm_s hf; obtain ⟨u12, hu12, hf⟩ := hf
        refine x_topi hu12 ?_
        refine lv_istore_n (pc := 80) (lv' := [(1, .int u12), (0, .ref x0), (2, .int x2), (3, .int x3)]) hx hb dX0_alike_80 rfl hl (by decide) rfl (fun ls hl => ?_)
        replace hf := nm_s hf; obtain ⟨u13, hu13, hf⟩ := hf
        refine lv_iinc (pc := 81) (v := u13) (lv' := [(3, .int u13), (1, .int u12), (0, .ref x0), (2, .int x2)]) hx hb dX0_alike_81 hl (k := 3) rfl (by rw [hu13]; rfl) (by decide) rfl (fun ls hl => ?_)
        refine lv_goto (pc := 84) (tgt := 19) hx hb dX0_alike_84 (by decide) ?_
        exact ih hf V (lv_sub hl [2, 1, 3, 0] rfl)
      · replace hf := if_f hf c11
        refine lv_aload_n (pc := 44) hx hb dX0_alike_44 rfl (lv_at hl 0 rfl) ?_
        replace hf := bs hf; obtain ⟨r14, hk_15, hf⟩ := hf
        refine x_callV0 (pc := 45) (As := []) (rest := [.int x1]) X V (mX0_table l D dA s0 hk_15) okX0 ht1 q568 q570 qs6 q119 q571 ⟨rfl, hsX0_table⟩ ⟨Nat.le_of_ble_eq_true rfl, Nat.le_of_ble_eq_true rfl⟩ rfl hl.1 rfl (Nat.le_of_ble_eq_true rfl) dX0_alike_45 ⟨Nat.zero_le _, Nat.zero_le _⟩ (fun H locs V => W.eq (g2 := F0 m 48 ls [.ref r14, .int x1]) rfl ?_)
        replace hf := tg_s hf; obtain ⟨ht16, hf⟩ := hf
        replace hf := bs hf; obtain ⟨a17, ha17, hf⟩ := hf
        refine x_getN (pc := 48) X V okX2 ht16 2 (by decide) q180 (v := va_rf (R r14 2)) rfl dX0_alike_48 ?_
        refine x_topr ha17 ?_
        refine lv_iload_n (pc := 51) hx hb dX0_alike_51 rfl (lv_at hl 2 rfl) ?_
        replace hf := rA_s hf; obtain ⟨j18, hjj18, htj18, hij18, hf⟩ := hf
        refine x_iald (pc := 52) X V htj18 hij18 hjj18 dX0_alike_52 ?_
        refine lv_aload_n (pc := 53) hx hb dX0_alike_53 rfl (lv_at hl 0 rfl) ?_
        replace hf := bs hf; obtain ⟨r19, hk_20, hf⟩ := hf
        refine x_callV0 (pc := 54) (As := []) (rest := [.int (I a17 j18), .int x1]) X V (mX0_table l D dA s0 hk_20) okX0 ht1 q568 q570 qs6 q119 q571 ⟨rfl, hsX0_table⟩ ⟨Nat.le_of_ble_eq_true rfl, Nat.le_of_ble_eq_true rfl⟩ rfl hl.1 rfl (Nat.le_of_ble_eq_true rfl) dX0_alike_54 ⟨Nat.zero_le _, Nat.zero_le _⟩ (fun H locs V => W.eq (g2 := F0 m 57 ls [.ref r19, .int (I a17 j18), .int x1]) rfl ?_)
        replace hf := tg_s hf; obtain ⟨ht21, hf⟩ := hf
        replace hf := bs hf; obtain ⟨a22, ha22, hf⟩ := hf
        refine x_getN (pc := 57) X V okX2 ht21 2 (by decide) q180 (v := va_rf (R r19 2)) rfl dX0_alike_57 ?_
        refine x_topr ha22 ?_
        refine lv_iload_n (pc := 60) hx hb dX0_alike_60 rfl (lv_at hl 3 rfl) ?_
        replace hf := rA_s hf; obtain ⟨j23, hjj23, htj23, hij23, hf⟩ := hf
        refine x_iald (pc := 61) X V htj23 hij23 hjj23 dX0_alike_61 ?_
        refine lv_icmp_ne (pc := 62) (tgt := 78) hx hb dX0_alike_62 (by decide) (fun c24 => ?_) (fun c24 => ?_)
        · replace hf := if_f hf c24
          refine lv_iconst (pc := 78) (v := (ii 0)) hx hb dX0_alike_78 (by decide) ?_
          refine lv_iadd (pc := 79) hx hb dX0_alike_79 ?_
          replace hf := nm_s hf; obtain ⟨u25, hu25, hf⟩ := hf
          refine x_topi hu25 ?_
          refine lv_istore_n (pc := 80) (lv' := [(1, .int u25), (0, .ref x0), (2, .int x2), (3, .int x3)]) hx hb dX0_alike_80 rfl hl (by decide) rfl (fun ls hl => ?_)
          replace hf := nm_s hf; obtain ⟨u26, hu26, hf⟩ := hf
          refine lv_iinc (pc := 81) (v := u26) (lv' := [(3, .int u26), (1, .int u25), (0, .ref x0), (2, .int x2)]) hx hb dX0_alike_81 hl (k := 3) rfl (by rw [hu26]; rfl) (by decide) rfl (fun ls hl => ?_)
          refine lv_goto (pc := 84) (tgt := 19) hx hb dX0_alike_84 (by decide) ?_
          exact ih hf V (lv_sub hl [2, 1, 3, 0] rfl)
        · replace hf := if_t hf c24
          refine lv_aload_n (pc := 65) hx hb dX0_alike_65 rfl (lv_at hl 0 rfl) ?_
          refine lv_iload_n (pc := 66) hx hb dX0_alike_66 rfl (lv_at hl 2 rfl) ?_
          refine lv_iload_n (pc := 67) hx hb dX0_alike_67 rfl (lv_at hl 3 rfl) ?_
          replace hf := bs hf; obtain ⟨r27, hk_28, hf⟩ := hf
          refine x_callV0 (pc := 68) (As := [.int x2, .int x3]) (rest := [.int x1]) X V (mX0_meet l D dA s0 hk_28) okX0 ht1 q1380 q1382 qs38 q119 q1383 ⟨rfl, hsX0_meet⟩ ⟨Nat.le_of_ble_eq_true rfl, Nat.le_of_ble_eq_true rfl⟩ rfl hl.1 rfl (Nat.le_of_ble_eq_true rfl) dX0_alike_68 ⟨Nat.zero_le _, Nat.zero_le _⟩ (fun H locs V => W.eq (g2 := F0 m 71 ls [.int r27, .int x1]) rfl ?_)
          refine lv_if_eq (pc := 71) (tgt := 78) hx hb dX0_alike_71 (by decide) (fun c29 => ?_) (fun c29 => ?_)
          · replace hf := if_t hf c29
            refine lv_iconst (pc := 78) (v := (ii 0)) hx hb dX0_alike_78 (by decide) ?_
            refine lv_iadd (pc := 79) hx hb dX0_alike_79 ?_
            replace hf := nm_s hf; obtain ⟨u30, hu30, hf⟩ := hf
            refine x_topi hu30 ?_
            refine lv_istore_n (pc := 80) (lv' := [(1, .int u30), (0, .ref x0), (2, .int x2), (3, .int x3)]) hx hb dX0_alike_80 rfl hl (by decide) rfl (fun ls hl => ?_)
            replace hf := nm_s hf; obtain ⟨u31, hu31, hf⟩ := hf
            refine lv_iinc (pc := 81) (v := u31) (lv' := [(3, .int u31), (1, .int u30), (0, .ref x0), (2, .int x2)]) hx hb dX0_alike_81 hl (k := 3) rfl (by rw [hu31]; rfl) (by decide) rfl (fun ls hl => ?_)
            refine lv_goto (pc := 84) (tgt := 19) hx hb dX0_alike_84 (by decide) ?_
            exact ih hf V (lv_sub hl [2, 1, 3, 0] rfl)
          · replace hf := if_f hf c29
            refine lv_iconst (pc := 74) (v := (ii 1)) hx hb dX0_alike_74 (by decide) ?_
            refine lv_goto (pc := 75) (tgt := 79) hx hb dX0_alike_75 (by decide) ?_
            refine lv_iadd (pc := 79) hx hb dX0_alike_79 ?_
            replace hf := nm_s hf; obtain ⟨u32, hu32, hf⟩ := hf
            refine x_topi hu32 ?_
            refine lv_istore_n (pc := 80) (lv' := [(1, .int u32), (0, .ref x0), (2, .int x2), (3, .int x3)]) hx hb dX0_alike_80 rfl hl (by decide) rfl (fun ls hl => ?_)
            replace hf := nm_s hf; obtain ⟨u33, hu33, hf⟩ := hf
            refine lv_iinc (pc := 81) (v := u33) (lv' := [(3, .int u33), (1, .int u32), (0, .ref x0), (2, .int x2)]) hx hb dX0_alike_81 hl (k := 3) rfl (by rw [hu33]; rfl) (by decide) rfl (fun ls hl => ?_)
            refine lv_goto (pc := 84) (tgt := 19) hx hb dX0_alike_84 (by decide) ?_
            exact ih hf V (lv_sub hl [2, 1, 3, 0] rfl)
set_option maxHeartbeats 400000 in
set_option maxRecDepth 100000 in
theorem wX0_alike_b4 {nf : Nat} {p : Program} {l : Launch} {e : Env} {s : State} {m : MethodId} {args : Array Value} {below : List Frame} {meth : Method} {c : Code} {D : va_G} {dA : Nat → ClassId} {s0 : Nat} {T : xT} {N : xT} {Z : Nat} {I : xI} {L : xL} {R : xR}  {ro : Int32} (X : Cx D dA s0 p m c cX0_alike 4 s args RX0 meth) (hr : meth.sig.returnType = (some .int))   (k : Nat) : ∀ {x0 : Nat} {x1 : Int32} {x2 : Int32} {H : Heap} {locs : List Loc} {ls : Array Slot} , fX0_alike_b4 nf T N I R k x0 x1 x2 = some ro → Iv D dA s0 s T N Z I L R H locs → lv_has ls 4 [(0, .ref x0), (1, .int x1), (2, .int x2)] → W p l e { frames := 2, cells := 0, slots := 0, locals := 44 } s m args below meth c H locs 0 0 (MQ below (xQ D dA s0 (some (.int ro)) T N Z I L R) args s 0 0 (fun q => s0 ≤ q)) (F0 m 4 ls []) := by
  have hx := X.1.1
  have hb := X.1.2.1
  induction k with
  | zero =>
    intro x0 x1 x2 H locs ls hf V hl
    exact absurd (show none = some _ from hf) (fun q => nomatch q)
  | succ k ih =>
    intro x0 x1 x2 H locs ls hf V hl
    rw [fX0_alike_b4] at hf
    refine lv_iload_n (pc := 4) hx hb dX0_alike_4 rfl (lv_at hl 2 rfl) ?_
    refine lv_aload_n (pc := 5) hx hb dX0_alike_5 rfl (lv_at hl 0 rfl) ?_
    replace hf := tg_s hf; obtain ⟨ht1, hf⟩ := hf
    replace hf := bs hf; obtain ⟨a2, ha2, hf⟩ := hf
    refine x_get (pc := 6) X V okX0 ht1 2 (by decide) q362 (v := va_rf (R x0 2)) rfl dX0_alike_6 ?_
    refine x_topr ha2 ?_
    replace hf := tg_s hf; obtain ⟨ht3, hf⟩ := hf
    refine x_getN (pc := 9) X V okX1 ht3 8 (by decide) q238 (v := .int (I a2 8)) rfl dX0_alike_9 ?_
    refine lv_icmp_ge (pc := 12) (tgt := 93) hx hb dX0_alike_12 (by decide) (fun c4 => ?_) (fun c4 => ?_)
    · replace hf := if_t hf c4
      refine lv_iload_n (pc := 93) hx hb dX0_alike_93 rfl (lv_at hl 1 rfl) ?_
      cases hf
      exact x_iret (pc := 94) X V hr dX0_alike_94
    · replace hf := if_f hf c4
      refine lv_iload_n (pc := 15) hx hb dX0_alike_15 rfl (lv_at hl 2 rfl) ?_
      refine lv_iconst (pc := 16) (v := (ii 1)) hx hb dX0_alike_16 (by decide) ?_
      refine lv_iadd (pc := 17) hx hb dX0_alike_17 ?_
      replace hf := nm_s hf; obtain ⟨u5, hu5, hf⟩ := hf
      refine x_topi hu5 ?_
      refine lv_istore_n (pc := 18) (lv' := [(3, .int u5), (0, .ref x0), (1, .int x1), (2, .int x2)]) hx hb dX0_alike_18 rfl hl (by decide) rfl (fun ls hl => ?_)
      exact wX0_alike_b19 X hr ih nf hf V (lv_sub hl [1, 2, 3, 0] rfl)
set_option maxHeartbeats 400000 in
set_option maxRecDepth 100000 in
theorem wX0_alike_e {nf : Nat} {p : Program} {l : Launch} {e : Env} {s : State} {m : MethodId} {args : Array Value} {below : List Frame} {meth : Method} {c : Code} {D : va_G} {dA : Nat → ClassId} {s0 : Nat} {T : xT} {N : xT} {Z : Nat} {I : xI} {L : xL} {R : xR} {H : Heap} {locs : List Loc} {ls : Array Slot} {x0 : Nat} {ro : Int32} (X : Cx D dA s0 p m c cX0_alike 4 s args RX0 meth) (hr : meth.sig.returnType = (some .int)) (hf : fX0_alike nf T N I R x0 = some ro) (V : Iv D dA s0 s T N Z I L R H locs) (hl : lv_has ls 4 [(0, .ref x0)]) : W p l e { frames := 2, cells := 0, slots := 0, locals := 44 } s m args below meth c H locs 0 0 (MQ below (xQ D dA s0 (some (.int ro)) T N Z I L R) args s 0 0 (fun q => s0 ≤ q)) (F0 m 0 ls []) := by
  have hx := X.1.1
  have hb := X.1.2.1
  unfold fX0_alike at hf
  refine lv_iconst (pc := 0) (v := (ii 0)) hx hb dX0_alike_0 (by decide) ?_
  refine lv_istore_n (pc := 1) (lv' := [(1, .int (ii 0)), (0, .ref x0)]) hx hb dX0_alike_1 rfl hl (by decide) rfl (fun ls hl => ?_)
  refine lv_iconst (pc := 2) (v := (ii 0)) hx hb dX0_alike_2 (by decide) ?_
  refine lv_istore_n (pc := 3) (lv' := [(2, .int (ii 0)), (1, .int (ii 0)), (0, .ref x0)]) hx hb dX0_alike_3 rfl hl (by decide) rfl (fun ls hl => ?_)
  exact wX0_alike_b4 X hr nf hf V (lv_sub hl [2, 1, 0] rfl)
theorem mX0_alike {nf : Nat} (l : Launch) (D : va_G) (dA : Nat → ClassId) (s0 : Nat) {T : xT} {N : xT} {Z : Nat} {I : xI} {L : xL} {R : xR} {x0 : Nat} {ro : Int32} (hf : fX0_alike nf T N I R x0 = some ro) : XMet l D dA s0 yX0_alike (ws_ yX0_alike cX0_alike 4 ((some .int))) (2) (44) [.ref x0] T N Z I L R (some (.int ro)) T N Z I L R 0 0 :=
  x_start (own := RX0) rfl (by decide) (Nat.le_of_ble_eq_true rfl) (lv := [(0, .ref x0)]) rfl (fun p e s m below meth c ls X hr hini V hl => wX0_alike_e X hr hf V hl)
set_option maxHeartbeats 400000 in
set_option maxRecDepth 100000 in
theorem wX0_lanesAt_b4 {nf : Nat} {p : Program} {l : Launch} {e : Env} {s : State} {m : MethodId} {args : Array Value} {below : List Frame} {meth : Method} {c : Code} {D : va_G} {dA : Nat → ClassId} {s0 : Nat} {T : xT} {N : xT} {Z : Nat} {I : xI} {L : xL} {R : xR}  {ro : Int32} (X : Cx D dA s0 p m c cX0_lanesAt 4 s args RX0 meth) (hr : meth.sig.returnType = (some .int))   (k : Nat) : ∀ {x0 : Nat} {x1 : Int32} {x2 : Int32} {x3 : Int32} {H : Heap} {locs : List Loc} {ls : Array Slot} , fX0_lanesAt_b4 nf T N I R k x0 x1 x2 x3 = some ro → Iv D dA s0 s T N Z I L R H locs → lv_has ls 4 [(0, .ref x0), (1, .int x1), (2, .int x2), (3, .int x3)] → W p l e { frames := 1, cells := 0, slots := 0, locals := 22 } s m args below meth c H locs 0 0 (MQ below (xQ D dA s0 (some (.int ro)) T N Z I L R) args s 0 0 (fun q => s0 ≤ q)) (F0 m 4 ls []) := by
  have hx := X.1.1
  have hb := X.1.2.1
  induction k with
  | zero =>
    intro x0 x1 x2 x3 H locs ls hf V hl
    exact absurd (show none = some _ from hf) (fun q => nomatch q)
  | succ k ih =>
    intro x0 x1 x2 x3 H locs ls hf V hl
    rw [fX0_lanesAt_b4] at hf
    refine lv_iload_n (pc := 4) hx hb dX0_lanesAt_4 rfl (lv_at hl 3 rfl) ?_
    refine lv_aload_n (pc := 5) hx hb dX0_lanesAt_5 rfl (lv_at hl 0 rfl) ?_
    replace hf := tg_s hf; obtain ⟨ht1, hf⟩ := hf
    replace hf := bs hf; obtain ⟨a2, ha2, hf⟩ := hf
    refine x_get (pc := 6) X V okX0 ht1 2 (by decide) q362 (v := va_rf (R x0 2)) rfl dX0_lanesAt_6 ?_
    refine x_topr ha2 ?_
    replace hf := tg_s hf; obtain ⟨ht3, hf⟩ := hf
    refine x_getN (pc := 9) X V okX1 ht3 8 (by decide) q238 (v := .int (I a2 8)) rfl dX0_lanesAt_9 ?_
    refine lv_icmp_ge (pc := 12) (tgt := 41) hx hb dX0_lanesAt_12 (by decide) (fun c4 => ?_) (fun c4 => ?_)
    · replace hf := if_t hf c4
      refine lv_iload_n (pc := 41) hx hb dX0_lanesAt_41 rfl (lv_at hl 2 rfl) ?_
      cases hf
      exact x_iret (pc := 42) X V hr dX0_lanesAt_42
    · replace hf := if_f hf c4
      refine lv_iload_n (pc := 15) hx hb dX0_lanesAt_15 rfl (lv_at hl 2 rfl) ?_
      refine lv_aload_n (pc := 16) hx hb dX0_lanesAt_16 rfl (lv_at hl 0 rfl) ?_
      refine x_get (pc := 17) X V okX0 ht1 2 (by decide) q362 (v := va_rf (R x0 2)) rfl dX0_lanesAt_17 ?_
      refine x_topr ha2 ?_
      refine lv_iload_n (pc := 20) hx hb dX0_lanesAt_20 rfl (lv_at hl 3 rfl) ?_
      refine lv_iload_n (pc := 21) hx hb dX0_lanesAt_21 rfl (lv_at hl 1 rfl) ?_
      replace hf := bs hf; obtain ⟨r5, hk_6, hf⟩ := hf
      refine x_callV0 (pc := 22) (As := [.int x3, .int x1]) (rest := [.int x2]) X V (mX1_isAt l D dA s0 hk_6) okX1 ht3 q683 q684 q685 q120 q686 ⟨rfl, hsX1_isAt⟩ ⟨Nat.le_of_ble_eq_true rfl, Nat.le_of_ble_eq_true rfl⟩ rfl hl.1 rfl (Nat.le_of_ble_eq_true rfl) dX0_lanesAt_22 ⟨Nat.zero_le _, Nat.zero_le _⟩ (fun H locs V => W.eq (g2 := F0 m 25 ls [.int r5, .int x2]) rfl ?_)
      refine lv_if_eq (pc := 25) (tgt := 32) hx hb dX0_lanesAt_25 (by decide) (fun c7 => ?_) (fun c7 => ?_)
      · replace hf := if_t hf c7
        refine lv_iconst (pc := 32) (v := (ii 0)) hx hb dX0_lanesAt_32 (by decide) ?_
        refine lv_iadd (pc := 33) hx hb dX0_lanesAt_33 ?_
        replace hf := nm_s hf; obtain ⟨u8, hu8, hf⟩ := hf
        refine x_topi hu8 ?_
        refine lv_istore_n (pc := 34) (lv' := [(2, .int u8), (0, .ref x0), (1, .int x1), (3, .int x3)]) hx hb dX0_lanesAt_34 rfl hl (by decide) rfl (fun ls hl => ?_)
        replace hf := nm_s hf; obtain ⟨u9, hu9, hf⟩ := hf
        refine lv_iinc (pc := 35) (v := u9) (lv' := [(3, .int u9), (2, .int u8), (0, .ref x0), (1, .int x1)]) hx hb dX0_lanesAt_35 hl (k := 3) rfl (by rw [hu9]; rfl) (by decide) rfl (fun ls hl => ?_)
        refine lv_goto (pc := 38) (tgt := 4) hx hb dX0_lanesAt_38 (by decide) ?_
        exact ih hf V (lv_sub hl [2, 3, 1, 0] rfl)
      · replace hf := if_f hf c7
        refine lv_iconst (pc := 28) (v := (ii 1)) hx hb dX0_lanesAt_28 (by decide) ?_
        refine lv_goto (pc := 29) (tgt := 33) hx hb dX0_lanesAt_29 (by decide) ?_
        refine lv_iadd (pc := 33) hx hb dX0_lanesAt_33 ?_
        replace hf := nm_s hf; obtain ⟨u10, hu10, hf⟩ := hf
        refine x_topi hu10 ?_
        refine lv_istore_n (pc := 34) (lv' := [(2, .int u10), (0, .ref x0), (1, .int x1), (3, .int x3)]) hx hb dX0_lanesAt_34 rfl hl (by decide) rfl (fun ls hl => ?_)
        replace hf := nm_s hf; obtain ⟨u11, hu11, hf⟩ := hf
        refine lv_iinc (pc := 35) (v := u11) (lv' := [(3, .int u11), (2, .int u10), (0, .ref x0), (1, .int x1)]) hx hb dX0_lanesAt_35 hl (k := 3) rfl (by rw [hu11]; rfl) (by decide) rfl (fun ls hl => ?_)
        refine lv_goto (pc := 38) (tgt := 4) hx hb dX0_lanesAt_38 (by decide) ?_
        exact ih hf V (lv_sub hl [2, 3, 1, 0] rfl)
set_option maxHeartbeats 400000 in
set_option maxRecDepth 100000 in
theorem wX0_lanesAt_e {nf : Nat} {p : Program} {l : Launch} {e : Env} {s : State} {m : MethodId} {args : Array Value} {below : List Frame} {meth : Method} {c : Code} {D : va_G} {dA : Nat → ClassId} {s0 : Nat} {T : xT} {N : xT} {Z : Nat} {I : xI} {L : xL} {R : xR} {H : Heap} {locs : List Loc} {ls : Array Slot} {x0 : Nat} {x1 : Int32} {ro : Int32} (X : Cx D dA s0 p m c cX0_lanesAt 4 s args RX0 meth) (hr : meth.sig.returnType = (some .int)) (hf : fX0_lanesAt nf T N I R x0 x1 = some ro) (V : Iv D dA s0 s T N Z I L R H locs) (hl : lv_has ls 4 [(0, .ref x0), (1, .int x1)]) : W p l e { frames := 1, cells := 0, slots := 0, locals := 22 } s m args below meth c H locs 0 0 (MQ below (xQ D dA s0 (some (.int ro)) T N Z I L R) args s 0 0 (fun q => s0 ≤ q)) (F0 m 0 ls []) := by
  have hx := X.1.1
  have hb := X.1.2.1
  unfold fX0_lanesAt at hf
  refine lv_iconst (pc := 0) (v := (ii 0)) hx hb dX0_lanesAt_0 (by decide) ?_
  refine lv_istore_n (pc := 1) (lv' := [(2, .int (ii 0)), (0, .ref x0), (1, .int x1)]) hx hb dX0_lanesAt_1 rfl hl (by decide) rfl (fun ls hl => ?_)
  refine lv_iconst (pc := 2) (v := (ii 0)) hx hb dX0_lanesAt_2 (by decide) ?_
  refine lv_istore_n (pc := 3) (lv' := [(3, .int (ii 0)), (2, .int (ii 0)), (0, .ref x0), (1, .int x1)]) hx hb dX0_lanesAt_3 rfl hl (by decide) rfl (fun ls hl => ?_)
  exact wX0_lanesAt_b4 X hr nf hf V (lv_sub hl [2, 3, 1, 0] rfl)
theorem mX0_lanesAt {nf : Nat} (l : Launch) (D : va_G) (dA : Nat → ClassId) (s0 : Nat) {T : xT} {N : xT} {Z : Nat} {I : xI} {L : xL} {R : xR} {x0 : Nat} {x1 : Int32} {ro : Int32} (hf : fX0_lanesAt nf T N I R x0 x1 = some ro) : XMet l D dA s0 yX0_lanesAt (ws_ yX0_lanesAt cX0_lanesAt 4 ((some .int))) (1) (22) [.ref x0, .int x1] T N Z I L R (some (.int ro)) T N Z I L R 0 0 :=
  x_start (own := RX0) rfl (by decide) (Nat.le_of_ble_eq_true rfl) (lv := [(0, .ref x0), (1, .int x1)]) rfl (fun p e s m below meth c ls X hr hini V hl => wX0_lanesAt_e X hr hf V hl)
set_option maxHeartbeats 400000 in
set_option maxRecDepth 100000 in
theorem wJ13_numberOfTrailingZeros_b62 {p : Program} {l : Launch} {e : Env} {s : State} {m : MethodId} {args : Array Value} {below : List Frame} {meth : Method} {c : Code} {D : va_G} {dA : Nat → ClassId} {s0 : Nat} {T : xT} {N : xT} {Z : Nat} {I : xI} {L : xL} {R : xR} {H : Heap} {locs : List Loc} {ls : Array Slot}  {x0 : Int32} {x1 : Int32} {ro : Int32} (X : Cx D dA s0 p m c cJ13_numberOfTrailingZeros 2 s args RJ13 meth) (hr : meth.sig.returnType = (some .int))   (hf : fJ13_numberOfTrailingZeros_b62 x0 x1 = some ro) (V : Iv D dA s0 s T N Z I L R H locs) (hl : lv_has ls 2 [(0, .int x0), (1, .int x1)]) : W p l e { frames := 0, cells := 0, slots := 0, locals := 0 } s m args below meth c H locs 0 0 (MQ below (xQ D dA s0 (some (.int ro)) T N Z I L R) args s 0 0 (fun q => s0 ≤ q)) (F0 m 62 ls []) := by
  have hx := X.1.1
  have hb := X.1.2.1
  unfold fJ13_numberOfTrailingZeros_b62 at hf
  refine lv_iload_n (pc := 62) hx hb dJ13_numberOfTrailingZeros_62 rfl (lv_at hl 0 rfl) ?_
  refine lv_iconst (pc := 63) (v := (ii 4)) hx hb dJ13_numberOfTrailingZeros_63 (by decide) ?_
  refine lv_icmp_le (pc := 64) (tgt := 74) hx hb dJ13_numberOfTrailingZeros_64 (by decide) (fun c1 => ?_) (fun c1 => ?_)
  · replace hf := if_t hf c1
    refine lv_iload_n (pc := 74) hx hb dJ13_numberOfTrailingZeros_74 rfl (lv_at hl 1 rfl) ?_
    refine lv_iload_n (pc := 75) hx hb dJ13_numberOfTrailingZeros_75 rfl (lv_at hl 0 rfl) ?_
    refine lv_iconst (pc := 76) (v := (ii 1)) hx hb dJ13_numberOfTrailingZeros_76 (by decide) ?_
    refine lv_iushr (pc := 77) hx hb dJ13_numberOfTrailingZeros_77 rfl ?_
    refine lv_iadd (pc := 78) hx hb dJ13_numberOfTrailingZeros_78 ?_
    cases hf
    exact x_iret (pc := 79) X V hr dJ13_numberOfTrailingZeros_79
  · replace hf := if_f hf c1
    replace hf := nm_s hf; obtain ⟨u2, hu2, hf⟩ := hf
    refine lv_iinc (pc := 67) (v := u2) (lv' := [(1, .int u2), (0, .int x0)]) hx hb dJ13_numberOfTrailingZeros_67 hl (k := 1) rfl (by rw [hu2]; rfl) (by decide) rfl (fun ls hl => ?_)
    refine lv_iload_n (pc := 70) hx hb dJ13_numberOfTrailingZeros_70 rfl (lv_at hl 1 rfl) ?_
    refine lv_iconst (pc := 71) (v := (ii 2)) hx hb dJ13_numberOfTrailingZeros_71 (by decide) ?_
    refine lv_iushr (pc := 72) hx hb dJ13_numberOfTrailingZeros_72 rfl ?_
    replace hf := nm_s hf; obtain ⟨u3, hu3, hf⟩ := hf
    refine x_topi hu3 ?_
    refine lv_istore_n (pc := 73) (lv' := [(0, .int u3), (1, .int u2)]) hx hb dJ13_numberOfTrailingZeros_73 rfl hl (by decide) rfl (fun ls hl => ?_)
    refine lv_iload_n (pc := 74) hx hb dJ13_numberOfTrailingZeros_74 rfl (lv_at hl 1 rfl) ?_
    refine lv_iload_n (pc := 75) hx hb dJ13_numberOfTrailingZeros_75 rfl (lv_at hl 0 rfl) ?_
    refine lv_iconst (pc := 76) (v := (ii 1)) hx hb dJ13_numberOfTrailingZeros_76 (by decide) ?_
    refine lv_iushr (pc := 77) hx hb dJ13_numberOfTrailingZeros_77 rfl ?_
    refine lv_iadd (pc := 78) hx hb dJ13_numberOfTrailingZeros_78 ?_
    cases hf
    exact x_iret (pc := 79) X V hr dJ13_numberOfTrailingZeros_79
set_option maxHeartbeats 400000 in
set_option maxRecDepth 100000 in
theorem wJ13_numberOfTrailingZeros_b49 {p : Program} {l : Launch} {e : Env} {s : State} {m : MethodId} {args : Array Value} {below : List Frame} {meth : Method} {c : Code} {D : va_G} {dA : Nat → ClassId} {s0 : Nat} {T : xT} {N : xT} {Z : Nat} {I : xI} {L : xL} {R : xR} {H : Heap} {locs : List Loc} {ls : Array Slot}  {x0 : Int32} {x1 : Int32} {ro : Int32} (X : Cx D dA s0 p m c cJ13_numberOfTrailingZeros 2 s args RJ13 meth) (hr : meth.sig.returnType = (some .int))   (hf : fJ13_numberOfTrailingZeros_b49 x0 x1 = some ro) (V : Iv D dA s0 s T N Z I L R H locs) (hl : lv_has ls 2 [(0, .int x0), (1, .int x1)]) : W p l e { frames := 0, cells := 0, slots := 0, locals := 0 } s m args below meth c H locs 0 0 (MQ below (xQ D dA s0 (some (.int ro)) T N Z I L R) args s 0 0 (fun q => s0 ≤ q)) (F0 m 49 ls []) := by
  have hx := X.1.1
  have hb := X.1.2.1
  unfold fJ13_numberOfTrailingZeros_b49 at hf
  refine lv_iload_n (pc := 49) hx hb dJ13_numberOfTrailingZeros_49 rfl (lv_at hl 0 rfl) ?_
  refine lv_bipush (pc := 50) (v := (ii 16)) hx hb dJ13_numberOfTrailingZeros_50 (by decide) ?_
  refine lv_icmp_le (pc := 52) (tgt := 62) hx hb dJ13_numberOfTrailingZeros_52 (by decide) (fun c1 => ?_) (fun c1 => ?_)
  · replace hf := if_t hf c1
    exact wJ13_numberOfTrailingZeros_b62 X hr hf V (lv_sub hl [0, 1] rfl)
  · replace hf := if_f hf c1
    replace hf := nm_s hf; obtain ⟨u2, hu2, hf⟩ := hf
    refine lv_iinc (pc := 55) (v := u2) (lv' := [(1, .int u2), (0, .int x0)]) hx hb dJ13_numberOfTrailingZeros_55 hl (k := 1) rfl (by rw [hu2]; rfl) (by decide) rfl (fun ls hl => ?_)
    refine lv_iload_n (pc := 58) hx hb dJ13_numberOfTrailingZeros_58 rfl (lv_at hl 1 rfl) ?_
    refine lv_iconst (pc := 59) (v := (ii 4)) hx hb dJ13_numberOfTrailingZeros_59 (by decide) ?_
    refine lv_iushr (pc := 60) hx hb dJ13_numberOfTrailingZeros_60 rfl ?_
    replace hf := nm_s hf; obtain ⟨u3, hu3, hf⟩ := hf
    refine x_topi hu3 ?_
    refine lv_istore_n (pc := 61) (lv' := [(0, .int u3), (1, .int u2)]) hx hb dJ13_numberOfTrailingZeros_61 rfl hl (by decide) rfl (fun ls hl => ?_)
    exact wJ13_numberOfTrailingZeros_b62 X hr hf V (lv_sub hl [0, 1] rfl)
set_option maxHeartbeats 400000 in
set_option maxRecDepth 100000 in
theorem wJ13_numberOfTrailingZeros_b34 {p : Program} {l : Launch} {e : Env} {s : State} {m : MethodId} {args : Array Value} {below : List Frame} {meth : Method} {c : Code} {D : va_G} {dA : Nat → ClassId} {s0 : Nat} {T : xT} {N : xT} {Z : Nat} {I : xI} {L : xL} {R : xR} {H : Heap} {locs : List Loc} {ls : Array Slot}  {x0 : Int32} {x1 : Int32} {ro : Int32} (X : Cx D dA s0 p m c cJ13_numberOfTrailingZeros 2 s args RJ13 meth) (hr : meth.sig.returnType = (some .int))   (hf : fJ13_numberOfTrailingZeros_b34 x0 x1 = some ro) (V : Iv D dA s0 s T N Z I L R H locs) (hl : lv_has ls 2 [(0, .int x0), (1, .int x1)]) : W p l e { frames := 0, cells := 0, slots := 0, locals := 0 } s m args below meth c H locs 0 0 (MQ below (xQ D dA s0 (some (.int ro)) T N Z I L R) args s 0 0 (fun q => s0 ≤ q)) (F0 m 34 ls []) := by
  have hx := X.1.1
  have hb := X.1.2.1
  unfold fJ13_numberOfTrailingZeros_b34 at hf
  refine lv_iload_n (pc := 34) hx hb dJ13_numberOfTrailingZeros_34 rfl (lv_at hl 0 rfl) ?_
  refine lv_sipush (pc := 35) (v := (ii 256)) hx hb dJ13_numberOfTrailingZeros_35 (by decide) ?_
  refine lv_icmp_le (pc := 38) (tgt := 49) hx hb dJ13_numberOfTrailingZeros_38 (by decide) (fun c1 => ?_) (fun c1 => ?_)
  · replace hf := if_t hf c1
    exact wJ13_numberOfTrailingZeros_b49 X hr hf V (lv_sub hl [0, 1] rfl)
  · replace hf := if_f hf c1
    replace hf := nm_s hf; obtain ⟨u2, hu2, hf⟩ := hf
    refine lv_iinc (pc := 41) (v := u2) (lv' := [(1, .int u2), (0, .int x0)]) hx hb dJ13_numberOfTrailingZeros_41 hl (k := 1) rfl (by rw [hu2]; rfl) (by decide) rfl (fun ls hl => ?_)
    refine lv_iload_n (pc := 44) hx hb dJ13_numberOfTrailingZeros_44 rfl (lv_at hl 1 rfl) ?_
    refine lv_bipush (pc := 45) (v := (ii 8)) hx hb dJ13_numberOfTrailingZeros_45 (by decide) ?_
    refine lv_iushr (pc := 47) hx hb dJ13_numberOfTrailingZeros_47 rfl ?_
    replace hf := nm_s hf; obtain ⟨u3, hu3, hf⟩ := hf
    refine x_topi hu3 ?_
    refine lv_istore_n (pc := 48) (lv' := [(0, .int u3), (1, .int u2)]) hx hb dJ13_numberOfTrailingZeros_48 rfl hl (by decide) rfl (fun ls hl => ?_)
    exact wJ13_numberOfTrailingZeros_b49 X hr hf V (lv_sub hl [0, 1] rfl)
set_option maxHeartbeats 400000 in
set_option maxRecDepth 100000 in
theorem wJ13_numberOfTrailingZeros_e {p : Program} {l : Launch} {e : Env} {s : State} {m : MethodId} {args : Array Value} {below : List Frame} {meth : Method} {c : Code} {D : va_G} {dA : Nat → ClassId} {s0 : Nat} {T : xT} {N : xT} {Z : Nat} {I : xI} {L : xL} {R : xR} {H : Heap} {locs : List Loc} {ls : Array Slot} {x0 : Int32} {ro : Int32} (X : Cx D dA s0 p m c cJ13_numberOfTrailingZeros 2 s args RJ13 meth) (hr : meth.sig.returnType = (some .int)) (hf : fJ13_numberOfTrailingZeros x0 = some ro) (V : Iv D dA s0 s T N Z I L R H locs) (hl : lv_has ls 2 [(0, .int x0)]) : W p l e { frames := 0, cells := 0, slots := 0, locals := 0 } s m args below meth c H locs 0 0 (MQ below (xQ D dA s0 (some (.int ro)) T N Z I L R) args s 0 0 (fun q => s0 ≤ q)) (F0 m 0 ls []) := by
  have hx := X.1.1
  have hb := X.1.2.1
  unfold fJ13_numberOfTrailingZeros at hf
  refine lv_iload_n (pc := 0) hx hb dJ13_numberOfTrailingZeros_0 rfl (lv_at hl 0 rfl) ?_
  refine lv_iconst (pc := 1) (v := (-1 : Int32)) hx hb dJ13_numberOfTrailingZeros_1 (by decide) ?_
  refine lv_ixor (pc := 2) hx hb dJ13_numberOfTrailingZeros_2 ?_
  refine lv_iload_n (pc := 3) hx hb dJ13_numberOfTrailingZeros_3 rfl (lv_at hl 0 rfl) ?_
  refine lv_iconst (pc := 4) (v := (ii 1)) hx hb dJ13_numberOfTrailingZeros_4 (by decide) ?_
  refine lv_isub (pc := 5) hx hb dJ13_numberOfTrailingZeros_5 ?_
  refine lv_iand (pc := 6) hx hb dJ13_numberOfTrailingZeros_6 ?_
  replace hf := nm_s hf; obtain ⟨u1, hu1, hf⟩ := hf
  refine x_topi hu1 ?_
  refine lv_istore_n (pc := 7) (lv' := [(0, .int u1)]) hx hb dJ13_numberOfTrailingZeros_7 rfl hl (by decide) rfl (fun ls hl => ?_)
  refine lv_iload_n (pc := 8) hx hb dJ13_numberOfTrailingZeros_8 rfl (lv_at hl 0 rfl) ?_
  refine lv_if_gt (pc := 9) (tgt := 17) hx hb dJ13_numberOfTrailingZeros_9 (by decide) (fun c2 => ?_) (fun c2 => ?_)
  · replace hf := if_t hf c2
    refine lv_iconst (pc := 17) (v := (ii 1)) hx hb dJ13_numberOfTrailingZeros_17 (by decide) ?_
    refine lv_istore_n (pc := 18) (lv' := [(1, .int (ii 1)), (0, .int u1)]) hx hb dJ13_numberOfTrailingZeros_18 rfl hl (by decide) rfl (fun ls hl => ?_)
    refine lv_iload_n (pc := 19) hx hb dJ13_numberOfTrailingZeros_19 rfl (lv_at hl 1 rfl) ?_
    refine lv_ldcw (pc := 20) (v := (ii 65536)) hx hb X.1.2.2.2.1 (X.1.2.2.2.2 _ q1403) dJ13_numberOfTrailingZeros_20 ?_
    refine lv_icmp_le (pc := 23) (tgt := 34) hx hb dJ13_numberOfTrailingZeros_23 (by decide) (fun c3 => ?_) (fun c3 => ?_)
    · replace hf := if_t hf c3
      exact wJ13_numberOfTrailingZeros_b34 X hr hf V (lv_sub hl [1, 0] rfl)
    · replace hf := if_f hf c3
      replace hf := nm_s hf; obtain ⟨u4, hu4, hf⟩ := hf
      refine lv_iinc (pc := 26) (v := u4) (lv' := [(1, .int u4), (0, .int u1)]) hx hb dJ13_numberOfTrailingZeros_26 hl (k := 0) rfl (by rw [hu4]; rfl) (by decide) rfl (fun ls hl => ?_)
      refine lv_iload_n (pc := 29) hx hb dJ13_numberOfTrailingZeros_29 rfl (lv_at hl 1 rfl) ?_
      refine lv_bipush (pc := 30) (v := (ii 16)) hx hb dJ13_numberOfTrailingZeros_30 (by decide) ?_
      refine lv_iushr (pc := 32) hx hb dJ13_numberOfTrailingZeros_32 rfl ?_
      replace hf := nm_s hf; obtain ⟨u5, hu5, hf⟩ := hf
      refine x_topi hu5 ?_
      refine lv_istore_n (pc := 33) (lv' := [(0, .int u5), (1, .int u4)]) hx hb dJ13_numberOfTrailingZeros_33 rfl hl (by decide) rfl (fun ls hl => ?_)
      exact wJ13_numberOfTrailingZeros_b34 X hr hf V (lv_sub hl [0, 1] rfl)
  · replace hf := if_f hf c2
    refine lv_iload_n (pc := 12) hx hb dJ13_numberOfTrailingZeros_12 rfl (lv_at hl 0 rfl) ?_
    refine lv_bipush (pc := 13) (v := (ii 32)) hx hb dJ13_numberOfTrailingZeros_13 (by decide) ?_
    refine lv_iand (pc := 15) hx hb dJ13_numberOfTrailingZeros_15 ?_
    cases hf
    exact x_iret (pc := 16) X V hr dJ13_numberOfTrailingZeros_16
theorem mJ13_numberOfTrailingZeros (l : Launch) (D : va_G) (dA : Nat → ClassId) (s0 : Nat) {T : xT} {N : xT} {Z : Nat} {I : xI} {L : xL} {R : xR} {x0 : Int32} {ro : Int32} (hf : fJ13_numberOfTrailingZeros x0 = some ro) : XMet l D dA s0 yJ13_numberOfTrailingZeros (ws_ yJ13_numberOfTrailingZeros cJ13_numberOfTrailingZeros 2 ((some .int))) (0) (0) [.int x0] T N Z I L R (some (.int ro)) T N Z I L R 0 0 :=
  x_start (own := RJ13) rfl (by decide) (Nat.le_of_ble_eq_true rfl) (lv := [(0, .int x0)]) rfl (fun p e s m below meth c ls X hr hini V hl => wJ13_numberOfTrailingZeros_e X hr hf V hl)
set_option maxHeartbeats 400000 in
set_option maxRecDepth 100000 in
theorem wX0_pairsUp_b27 {nf : Nat} {fd ld : Nat} {rc : xT → xT → xI → xR → Nat → Int32 → Option (Int32)} {p : Program} {l : Launch} {e : Env} {s : State} {m : MethodId} {args : Array Value} {below : List Frame} {meth : Method} {c : Code} {D : va_G} {dA : Nat → ClassId} {s0 : Nat} {T : xT} {N : xT} {Z : Nat} {I : xI} {L : xL} {R : xR}  {ro : Int32} (X : Cx D dA s0 p m c cX0_pairsUp 6 s args RX0 meth) (hr : meth.sig.returnType = (some .int)) (hrc : Con_X0_pairsUp l D dA s0 fd ld rc)   (k : Nat) : ∀ {x0 : Nat} {x2 : Int32} {x3 : Int32} {x4 : Int32} {x5 : Int32} {H : Heap} {locs : List Loc} {ls : Array Slot} , fX0_pairsUp_b27 nf rc T N I R k x0 x2 x3 x4 x5 = some ro → Iv D dA s0 s T N Z I L R H locs → lv_has ls 6 [(0, .ref x0), (2, .int x2), (3, .int x3), (4, .int x4), (5, .int x5)] → W p l e { frames := fd + 1, cells := 0, slots := 0, locals := ld + 60 } s m args below meth c H locs 0 0 (MQ below (xQ D dA s0 (some (.int ro)) T N Z I L R) args s 0 0 (fun q => s0 ≤ q)) (F0 m 27 ls []) := by
  have hx := X.1.1
  have hb := X.1.2.1
  induction k with
  | zero =>
    intro x0 x2 x3 x4 x5 H locs ls hf V hl
    exact absurd (show none = some _ from hf) (fun q => nomatch q)
  | succ k ih =>
    intro x0 x2 x3 x4 x5 H locs ls hf V hl
    rw [fX0_pairsUp_b27] at hf
    refine lv_iload (pc := 27) hx hb dX0_pairsUp_27 (lv_at hl 4 rfl) ?_
    refine lv_bipush (pc := 29) (v := (ii 8)) hx hb dX0_pairsUp_29 (by decide) ?_
    refine lv_icmp_ge (pc := 31) (tgt := 76) hx hb dX0_pairsUp_31 (by decide) (fun c1 => ?_) (fun c1 => ?_)
    · replace hf := if_t hf c1
      refine lv_iload (pc := 76) hx hb dX0_pairsUp_76 (lv_at hl 3 rfl) ?_
      cases hf
      exact x_iret (pc := 78) X V hr dX0_pairsUp_78
    · replace hf := if_f hf c1
      refine lv_iload_n (pc := 34) hx hb dX0_pairsUp_34 rfl (lv_at hl 2 rfl) ?_
      refine lv_iload (pc := 35) hx hb dX0_pairsUp_35 (lv_at hl 4 rfl) ?_
      replace hf := bs hf; obtain ⟨r2, hk_3, hf⟩ := hf
      refine x_callS0 (pc := 37) (As := [.int x3, .int x5]) (rest := []) X V (mX0_isOf l D dA s0 hk_3) q1332 q1333 q119 q1334 hsX0_isOf ⟨by dsimp only; omega, by dsimp only; omega⟩ rfl hl.1 rfl (Nat.le_of_ble_eq_true rfl) dX0_pairsUp_37 ⟨Nat.zero_le _, Nat.zero_le _⟩ (fun H locs V => W.eq (g2 := F0 m 40 ls [.int r2]) rfl ?_)
      refine lv_if_eq (pc := 40) (tgt := 70) hx hb dX0_pairsUp_40 (by decide) (fun c4 => ?_) (fun c4 => ?_)
      · replace hf := if_t hf c4
        replace hf := nm_s hf; obtain ⟨u5, hu5, hf⟩ := hf
        refine lv_iinc (pc := 70) (v := u5) (lv' := [(5, .int u5), (0, .ref x0), (2, .int x2), (3, .int x3), (4, .int x4)]) hx hb dX0_pairsUp_70 hl (k := 4) rfl (by rw [hu5]; rfl) (by decide) rfl (fun ls hl => ?_)
        refine lv_goto (pc := 73) (tgt := 27) hx hb dX0_pairsUp_73 (by decide) ?_
        exact ih hf V (lv_sub hl [1, 2, 3, 4, 0] rfl)
      · replace hf := if_f hf c4
        refine lv_iload (pc := 43) hx hb dX0_pairsUp_43 (lv_at hl 3 rfl) ?_
        refine lv_aload_n (pc := 45) hx hb dX0_pairsUp_45 rfl (lv_at hl 0 rfl) ?_
        refine lv_iload_n (pc := 46) hx hb dX0_pairsUp_46 rfl (lv_at hl 1 rfl) ?_
        refine lv_iload (pc := 47) hx hb dX0_pairsUp_47 (lv_at hl 4 rfl) ?_
        replace hf := tg_s hf; obtain ⟨ht8, hf⟩ := hf
        replace hf := bs hf; obtain ⟨r6, hk_7, hf⟩ := hf
        refine x_callV0 (pc := 49) (As := [.int x2, .int x5]) (rest := [.int x4]) X V (mX0_farOf l D dA s0 hk_7) okX0 ht8 q1294 q1296 qs29 q119 q1297 ⟨rfl, hsX0_farOf⟩ ⟨by dsimp only; omega, by dsimp only; omega⟩ rfl hl.1 rfl (Nat.le_of_ble_eq_true rfl) dX0_pairsUp_49 ⟨Nat.zero_le _, Nat.zero_le _⟩ (fun H locs V => W.eq (g2 := F0 m 52 ls [.int r6, .int x4]) rfl ?_)
        refine lv_aload_n (pc := 52) hx hb dX0_pairsUp_52 rfl (lv_at hl 0 rfl) ?_
        refine lv_iload_n (pc := 53) hx hb dX0_pairsUp_53 rfl (lv_at hl 2 rfl) ?_
        refine lv_iconst (pc := 54) (v := (ii 1)) hx hb dX0_pairsUp_54 (by decide) ?_
        refine lv_iload (pc := 55) hx hb dX0_pairsUp_55 (lv_at hl 4 rfl) ?_
        refine lv_ishl (pc := 57) hx hb dX0_pairsUp_57 ?_
        refine lv_iconst (pc := 58) (v := (-1 : Int32)) hx hb dX0_pairsUp_58 (by decide) ?_
        refine lv_ixor (pc := 59) hx hb dX0_pairsUp_59 ?_
        refine lv_iand (pc := 60) hx hb dX0_pairsUp_60 ?_
        replace hf := bs hf; obtain ⟨r9, hk_10, hf⟩ := hf
        refine x_callV0 (pc := 61) (As := [.int (x3 &&& (((ii 1) <<< (x5 &&& ii 31)) ^^^ (-1 : Int32)))]) (rest := [.int r6, .int x4]) X V (hrc hk_10) okX0 ht8 q1396 q1398 qs40 q119 q1399 ⟨rfl, hsX0_pairsUp⟩ ⟨by dsimp only; omega, by dsimp only; omega⟩ rfl hl.1 rfl (Nat.le_of_ble_eq_true rfl) dX0_pairsUp_61 ⟨Nat.zero_le _, Nat.zero_le _⟩ (fun H locs V => W.eq (g2 := F0 m 64 ls [.int r9, .int r6, .int x4]) rfl ?_)
        refine lv_iadd (pc := 64) hx hb dX0_pairsUp_64 ?_
        refine va_mmin (pc := 65) hx hb (X.1.2.2.1.trans hl.1.symm) X.1.2.2.2.1 (X.1.2.2.2.2 _ q1293) (X.1.2.2.2.2 _ q521) (X.1.2.2.2.2 _ q132) (X.1.2.2.2.2 _ q522) (Nat.le_of_ble_eq_true rfl) (Nat.le_of_ble_eq_true rfl) (Nat.zero_le _) (Nat.zero_le _) dX0_pairsUp_65 ?_
        replace hf := nm_s hf; obtain ⟨u11, hu11, hf⟩ := hf
        refine x_topi hu11 ?_
        refine lv_istore (pc := 68) (lv' := [(4, .int u11), (0, .ref x0), (2, .int x2), (3, .int x3), (5, .int x5)]) hx hb dX0_pairsUp_68 hl (by decide) rfl (fun ls hl => ?_)
        replace hf := nm_s hf; obtain ⟨u12, hu12, hf⟩ := hf
        refine lv_iinc (pc := 70) (v := u12) (lv' := [(5, .int u12), (4, .int u11), (0, .ref x0), (2, .int x2), (3, .int x3)]) hx hb dX0_pairsUp_70 hl (k := 4) rfl (by rw [hu12]; rfl) (by decide) rfl (fun ls hl => ?_)
        refine lv_goto (pc := 73) (tgt := 27) hx hb dX0_pairsUp_73 (by decide) ?_
        exact ih hf V (lv_sub hl [2, 3, 4, 1, 0] rfl)
set_option maxHeartbeats 400000 in
set_option maxRecDepth 100000 in
theorem wX0_pairsUp_e {nf : Nat} {fd ld : Nat} {rc : xT → xT → xI → xR → Nat → Int32 → Option (Int32)} {p : Program} {l : Launch} {e : Env} {s : State} {m : MethodId} {args : Array Value} {below : List Frame} {meth : Method} {c : Code} {D : va_G} {dA : Nat → ClassId} {s0 : Nat} {T : xT} {N : xT} {Z : Nat} {I : xI} {L : xL} {R : xR} {H : Heap} {locs : List Loc} {ls : Array Slot} {x0 : Nat} {x1 : Int32} {ro : Int32} (X : Cx D dA s0 p m c cX0_pairsUp 6 s args RX0 meth) (hr : meth.sig.returnType = (some .int)) (hrc : Con_X0_pairsUp l D dA s0 fd ld rc) (hf : fX0_pairsUp_E nf rc T N I R x0 x1 = some ro) (V : Iv D dA s0 s T N Z I L R H locs) (hl : lv_has ls 6 [(0, .ref x0), (1, .int x1)]) : W p l e { frames := fd + 1, cells := 0, slots := 0, locals := ld + 60 } s m args below meth c H locs 0 0 (MQ below (xQ D dA s0 (some (.int ro)) T N Z I L R) args s 0 0 (fun q => s0 ≤ q)) (F0 m 0 ls []) := by
  have hx := X.1.1
  have hb := X.1.2.1
  unfold fX0_pairsUp_E at hf
  refine lv_iload_n (pc := 0) hx hb dX0_pairsUp_0 rfl (lv_at hl 1 rfl) ?_
  refine lv_if_ne (pc := 1) (tgt := 6) hx hb dX0_pairsUp_1 (by decide) (fun c1 => ?_) (fun c1 => ?_)
  · replace hf := if_f hf c1
    refine lv_iload_n (pc := 6) hx hb dX0_pairsUp_6 rfl (lv_at hl 1 rfl) ?_
    replace hf := bs hf; obtain ⟨r2, hk_3, hf⟩ := hf
    refine x_callS0 (pc := 7) (As := [.int x1]) (rest := []) X V (mJ13_numberOfTrailingZeros l D dA s0 hk_3) q1400 q1401 q154 q1402 hsJ13_numberOfTrailingZeros ⟨by dsimp only; omega, by dsimp only; omega⟩ rfl hl.1 rfl (Nat.le_of_ble_eq_true rfl) dX0_pairsUp_7 ⟨Nat.zero_le _, Nat.zero_le _⟩ (fun H locs V => W.eq (g2 := F0 m 10 ls [.int r2]) rfl ?_)
    refine lv_istore_n (pc := 10) (lv' := [(2, .int r2), (0, .ref x0), (1, .int x1)]) hx hb dX0_pairsUp_10 rfl hl (by decide) rfl (fun ls hl => ?_)
    refine lv_iload_n (pc := 11) hx hb dX0_pairsUp_11 rfl (lv_at hl 2 rfl) ?_
    refine lv_iconst (pc := 12) (v := (ii 1)) hx hb dX0_pairsUp_12 (by decide) ?_
    refine lv_iload_n (pc := 13) hx hb dX0_pairsUp_13 rfl (lv_at hl 0 rfl) ?_
    refine lv_ishl (pc := 14) hx hb dX0_pairsUp_14 ?_
    refine lv_iconst (pc := 15) (v := (-1 : Int32)) hx hb dX0_pairsUp_15 (by decide) ?_
    refine lv_ixor (pc := 16) hx hb dX0_pairsUp_16 ?_
    refine lv_iand (pc := 17) hx hb dX0_pairsUp_17 ?_
    replace hf := nm_s hf; obtain ⟨u4, hu4, hf⟩ := hf
    refine x_topi hu4 ?_
    refine lv_istore_n (pc := 18) (lv' := [(3, .int u4), (2, .int r2), (0, .ref x0), (1, .int x1)]) hx hb dX0_pairsUp_18 rfl hl (by decide) rfl (fun ls hl => ?_)
    refine lv_ldcw (pc := 19) (v := (ii 1000000)) hx hb X.1.2.2.2.1 (X.1.2.2.2.2 _ q1292) dX0_pairsUp_19 ?_
    refine lv_istore (pc := 22) (lv' := [(4, .int (ii 1000000)), (3, .int u4), (2, .int r2), (0, .ref x0), (1, .int x1)]) hx hb dX0_pairsUp_22 hl (by decide) rfl (fun ls hl => ?_)
    refine lv_iconst (pc := 24) (v := (ii 0)) hx hb dX0_pairsUp_24 (by decide) ?_
    refine lv_istore (pc := 25) (lv' := [(5, .int (ii 0)), (4, .int (ii 1000000)), (3, .int u4), (2, .int r2), (0, .ref x0), (1, .int x1)]) hx hb dX0_pairsUp_25 hl (by decide) rfl (fun ls hl => ?_)
    exact wX0_pairsUp_b27 X hr hrc nf hf V (lv_sub hl [4, 3, 2, 1, 0] rfl)
  · replace hf := if_t hf c1
    refine lv_iconst (pc := 4) (v := (ii 0)) hx hb dX0_pairsUp_4 (by decide) ?_
    cases hf
    exact x_iret (pc := 5) X V hr dX0_pairsUp_5
theorem mX0_pairsUp_E {nf : Nat} {fd ld : Nat} {rc : xT → xT → xI → xR → Nat → Int32 → Option (Int32)} (l : Launch) (D : va_G) (dA : Nat → ClassId) (s0 : Nat) {T : xT} {N : xT} {Z : Nat} {I : xI} {L : xL} {R : xR} {x0 : Nat} {x1 : Int32} {ro : Int32} (hrc : Con_X0_pairsUp l D dA s0 fd ld rc) (hf : fX0_pairsUp_E nf rc T N I R x0 x1 = some ro) : XMet l D dA s0 yX0_pairsUp (ws_ yX0_pairsUp cX0_pairsUp 6 ((some .int))) (fd + 1) (ld + 60) [.ref x0, .int x1] T N Z I L R (some (.int ro)) T N Z I L R 0 0 :=
  x_start (own := RX0) rfl (by decide) (Nat.le_of_ble_eq_true rfl) (lv := [(0, .ref x0), (1, .int x1)]) rfl (fun p e s m below meth c ls X hr hini V hl => wX0_pairsUp_e X hr hrc hf V hl)
theorem mX0_pairsUp {nf : Nat} (l : Launch) (D : va_G) (dA : Nat → ClassId) (s0 : Nat) (d : Nat) : Con_X0_pairsUp l D dA s0 (1 * d) (60 * d) (fX0_pairsUp nf d) := by
  induction d with
  | zero =>
    intro T N Z I L R x0 x1 ro hf
    exact absurd (show none = some _ from hf) (fun q => nomatch q)
  | succ d ih =>
    intro T N Z I L R x0 x1 ro hf
    exact mX0_pairsUp_E l D dA s0 ih hf
set_option maxHeartbeats 400000 in
set_option maxRecDepth 100000 in
theorem wX0_round_b71 {nf : Nat} {p : Program} {l : Launch} {e : Env} {s : State} {m : MethodId} {args : Array Value} {below : List Frame} {meth : Method} {c : Code} {D : va_G} {dA : Nat → ClassId} {s0 : Nat} {T : xT} {N : xT} {Z : Nat} {L : xL} {R : xR}  {ro : Int32} {Io : xI} (X : Cx D dA s0 p m c cX0_round 4 s args RX0 meth) (hr : meth.sig.returnType = (some .int))   (k : Nat) : ∀ {I : xI} {x0 : Nat} {x1 : Int32} {x2 : Int32} {x3 : Int32} {H : Heap} {locs : List Loc} {ls : Array Slot} , fX0_round_b71 nf T N R k I x0 x1 x2 x3 = some (ro, Io) → Iv D dA s0 s T N Z I L R H locs → lv_has ls 4 [(0, .ref x0), (1, .int x1), (2, .int x2), (3, .int x3)] → W p l e { frames := 7, cells := 0, slots := 0, locals := 385 } s m args below meth c H locs 0 0 (MQ below (xQ D dA s0 (some (.int ro)) T N Z Io L R) args s 0 0 (fun q => s0 ≤ q)) (F0 m 71 ls []) := by
  have hx := X.1.1
  have hb := X.1.2.1
  induction k with
  | zero =>
    intro I x0 x1 x2 x3 H locs ls hf V hl
    exact absurd (show none = some _ from hf) (fun q => nomatch q)
  | succ k ih =>
    intro I x0 x1 x2 x3 H locs ls hf V hl
    rw [fX0_round_b71] at hf
    refine lv_iload_n (pc := 71) hx hb dX0_round_71 rfl (lv_at hl 3 rfl) ?_
    refine lv_bipush (pc := 72) (v := (ii 8)) hx hb dX0_round_72 (by decide) ?_
    refine lv_icmp_ge (pc := 74) (tgt := 104) hx hb dX0_round_74 (by decide) (fun c1 => ?_) (fun c1 => ?_)
    · replace hf := if_t hf c1
      refine lv_iload_n (pc := 104) hx hb dX0_round_104 rfl (lv_at hl 1 rfl) ?_
      refine lv_aload_n (pc := 105) hx hb dX0_round_105 rfl (lv_at hl 0 rfl) ?_
      refine lv_iload_n (pc := 106) hx hb dX0_round_106 rfl (lv_at hl 2 rfl) ?_
      replace hf := tg_s hf; obtain ⟨ht4, hf⟩ := hf
      replace hf := bs hf; obtain ⟨r2, hk_3, hf⟩ := hf
      refine x_callV0 (pc := 107) (As := [.int x2]) (rest := [.int x1]) X V (mX0_pairsUp l D dA s0 6 hk_3) okX0 ht4 q1396 q1398 qs40 q119 q1399 ⟨rfl, hsX0_pairsUp⟩ ⟨Nat.le_of_ble_eq_true rfl, Nat.le_of_ble_eq_true rfl⟩ rfl hl.1 rfl (Nat.le_of_ble_eq_true rfl) dX0_round_107 ⟨Nat.zero_le _, Nat.zero_le _⟩ (fun H locs V => W.eq (g2 := F0 m 110 ls [.int r2, .int x1]) rfl ?_)
      refine lv_iadd (pc := 110) hx hb dX0_round_110 ?_
      cases hf
      exact x_iret (pc := 111) X V hr dX0_round_111
    · replace hf := if_f hf c1
      refine lv_iload_n (pc := 77) hx hb dX0_round_77 rfl (lv_at hl 2 rfl) ?_
      refine lv_aload_n (pc := 78) hx hb dX0_round_78 rfl (lv_at hl 0 rfl) ?_
      refine lv_iload_n (pc := 79) hx hb dX0_round_79 rfl (lv_at hl 3 rfl) ?_
      replace hf := tg_s hf; obtain ⟨ht7, hf⟩ := hf
      replace hf := bs hf; obtain ⟨r5, hk_6, hf⟩ := hf
      refine x_callV0 (pc := 80) (As := [.int x3]) (rest := [.int x2]) X V (mX0_lanesAt l D dA s0 hk_6) okX0 ht7 q1392 q1394 qs39 q119 q1395 ⟨rfl, hsX0_lanesAt⟩ ⟨Nat.le_of_ble_eq_true rfl, Nat.le_of_ble_eq_true rfl⟩ rfl hl.1 rfl (Nat.le_of_ble_eq_true rfl) dX0_round_80 ⟨Nat.zero_le _, Nat.zero_le _⟩ (fun H locs V => W.eq (g2 := F0 m 83 ls [.int r5, .int x2]) rfl ?_)
      refine lv_iconst (pc := 83) (v := (ii 2)) hx hb dX0_round_83 (by decide) ?_
      refine lv_irem (pc := 84) hx hb dX0_round_84 (by decide) ?_
      refine lv_iconst (pc := 85) (v := (ii 1)) hx hb dX0_round_85 (by decide) ?_
      refine lv_icmp_ne (pc := 86) (tgt := 95) hx hb dX0_round_86 (by decide) (fun c8 => ?_) (fun c8 => ?_)
      · replace hf := if_f hf c8
        refine lv_iconst (pc := 95) (v := (ii 0)) hx hb dX0_round_95 (by decide) ?_
        refine lv_ior (pc := 96) hx hb dX0_round_96 ?_
        replace hf := nm_s hf; obtain ⟨u9, hu9, hf⟩ := hf
        refine x_topi hu9 ?_
        refine lv_istore_n (pc := 97) (lv' := [(2, .int u9), (0, .ref x0), (1, .int x1), (3, .int x3)]) hx hb dX0_round_97 rfl hl (by decide) rfl (fun ls hl => ?_)
        replace hf := nm_s hf; obtain ⟨u10, hu10, hf⟩ := hf
        refine lv_iinc (pc := 98) (v := u10) (lv' := [(3, .int u10), (2, .int u9), (0, .ref x0), (1, .int x1)]) hx hb dX0_round_98 hl (k := 3) rfl (by rw [hu10]; rfl) (by decide) rfl (fun ls hl => ?_)
        refine lv_goto (pc := 101) (tgt := 71) hx hb dX0_round_101 (by decide) ?_
        exact ih hf V (lv_sub hl [2, 3, 1, 0] rfl)
      · replace hf := if_t hf c8
        refine lv_iconst (pc := 89) (v := (ii 1)) hx hb dX0_round_89 (by decide) ?_
        refine lv_iload_n (pc := 90) hx hb dX0_round_90 rfl (lv_at hl 3 rfl) ?_
        refine lv_ishl (pc := 91) hx hb dX0_round_91 ?_
        refine lv_goto (pc := 92) (tgt := 96) hx hb dX0_round_92 (by decide) ?_
        refine lv_ior (pc := 96) hx hb dX0_round_96 ?_
        replace hf := nm_s hf; obtain ⟨u11, hu11, hf⟩ := hf
        refine x_topi hu11 ?_
        refine lv_istore_n (pc := 97) (lv' := [(2, .int u11), (0, .ref x0), (1, .int x1), (3, .int x3)]) hx hb dX0_round_97 rfl hl (by decide) rfl (fun ls hl => ?_)
        replace hf := nm_s hf; obtain ⟨u12, hu12, hf⟩ := hf
        refine lv_iinc (pc := 98) (v := u12) (lv' := [(3, .int u12), (2, .int u11), (0, .ref x0), (1, .int x1)]) hx hb dX0_round_98 hl (k := 3) rfl (by rw [hu12]; rfl) (by decide) rfl (fun ls hl => ?_)
        refine lv_goto (pc := 101) (tgt := 71) hx hb dX0_round_101 (by decide) ?_
        exact ih hf V (lv_sub hl [2, 3, 1, 0] rfl)
set_option maxHeartbeats 400000 in
set_option maxRecDepth 100000 in
theorem wX0_round_b10 {nf : Nat} {p : Program} {l : Launch} {e : Env} {s : State} {m : MethodId} {args : Array Value} {below : List Frame} {meth : Method} {c : Code} {D : va_G} {dA : Nat → ClassId} {s0 : Nat} {T : xT} {N : xT} {Z : Nat} {L : xL} {R : xR}  {ro : Int32} {Io : xI} (X : Cx D dA s0 p m c cX0_round 4 s args RX0 meth) (hr : meth.sig.returnType = (some .int))   (k : Nat) : ∀ {I : xI} {x0 : Nat} {x1 : Int32} {x2 : Int32} {x3 : Int32} {H : Heap} {locs : List Loc} {ls : Array Slot} , fX0_round_b10 nf T N R k I x0 x1 x2 x3 = some (ro, Io) → Iv D dA s0 s T N Z I L R H locs → lv_has ls 4 [(0, .ref x0), (1, .int x1), (2, .int x2), (3, .int x3)] → W p l e { frames := 7, cells := 0, slots := 0, locals := 385 } s m args below meth c H locs 0 0 (MQ below (xQ D dA s0 (some (.int ro)) T N Z Io L R) args s 0 0 (fun q => s0 ≤ q)) (F0 m 10 ls []) := by
  have hx := X.1.1
  have hb := X.1.2.1
  induction k with
  | zero =>
    intro I x0 x1 x2 x3 H locs ls hf V hl
    exact absurd (show none = some _ from hf) (fun q => nomatch q)
  | succ k ih =>
    intro I x0 x1 x2 x3 H locs ls hf V hl
    rw [fX0_round_b10] at hf
    refine lv_iload_n (pc := 10) hx hb dX0_round_10 rfl (lv_at hl 3 rfl) ?_
    refine lv_aload_n (pc := 11) hx hb dX0_round_11 rfl (lv_at hl 0 rfl) ?_
    replace hf := tg_s hf; obtain ⟨ht1, hf⟩ := hf
    replace hf := bs hf; obtain ⟨a2, ha2, hf⟩ := hf
    refine x_get (pc := 12) X V okX0 ht1 2 (by decide) q362 (v := va_rf (R x0 2)) rfl dX0_round_12 ?_
    refine x_topr ha2 ?_
    replace hf := tg_s hf; obtain ⟨ht3, hf⟩ := hf
    refine x_getN (pc := 15) X V okX1 ht3 8 (by decide) q238 (v := .int (I a2 8)) rfl dX0_round_15 ?_
    refine lv_icmp_ge (pc := 18) (tgt := 69) hx hb dX0_round_18 (by decide) (fun c4 => ?_) (fun c4 => ?_)
    · replace hf := if_t hf c4
      refine lv_iconst (pc := 69) (v := (ii 0)) hx hb dX0_round_69 (by decide) ?_
      refine lv_istore_n (pc := 70) (lv' := [(3, .int (ii 0)), (0, .ref x0), (1, .int x1), (2, .int x2)]) hx hb dX0_round_70 rfl hl (by decide) rfl (fun ls hl => ?_)
      exact wX0_round_b71 X hr nf hf V (lv_sub hl [1, 2, 3, 0] rfl)
    · replace hf := if_f hf c4
      refine lv_iload_n (pc := 21) hx hb dX0_round_21 rfl (lv_at hl 1 rfl) ?_
      refine lv_aload_n (pc := 22) hx hb dX0_round_22 rfl (lv_at hl 0 rfl) ?_
      refine x_get (pc := 23) X V okX0 ht1 2 (by decide) q362 (v := va_rf (R x0 2)) rfl dX0_round_23 ?_
      refine x_topr ha2 ?_
      replace hf := bs hf; obtain ⟨a5, ha5, hf⟩ := hf
      refine x_getN (pc := 26) X V okX1 ht3 3 (by decide) q228 (v := va_rf (R a2 3)) rfl dX0_round_26 ?_
      refine x_topr ha5 ?_
      refine lv_iload_n (pc := 29) hx hb dX0_round_29 rfl (lv_at hl 3 rfl) ?_
      replace hf := rA_s hf; obtain ⟨j6, hjj6, htj6, hij6, hf⟩ := hf
      refine x_iald (pc := 30) X V htj6 hij6 hjj6 dX0_round_30 ?_
      refine lv_iadd (pc := 31) hx hb dX0_round_31 ?_
      replace hf := nm_s hf; obtain ⟨u7, hu7, hf⟩ := hf
      refine x_topi hu7 ?_
      refine lv_istore_n (pc := 32) (lv' := [(1, .int u7), (0, .ref x0), (2, .int x2), (3, .int x3)]) hx hb dX0_round_32 rfl hl (by decide) rfl (fun ls hl => ?_)
      refine lv_aload_n (pc := 33) hx hb dX0_round_33 rfl (lv_at hl 1 rfl) ?_
      refine lv_aload_n (pc := 34) hx hb dX0_round_34 rfl (lv_at hl 1 rfl) ?_
      refine x_get (pc := 35) X V okX0 ht1 2 (by decide) q362 (v := va_rf (R x0 2)) rfl dX0_round_35 ?_
      refine x_topr ha2 ?_
      replace hf := bs hf; obtain ⟨a8, ha8, hf⟩ := hf
      refine x_getN (pc := 38) X V okX1 ht3 1 (by decide) q224 (v := va_rf (R a2 1)) rfl dX0_round_38 ?_
      refine x_topr ha8 ?_
      refine lv_iconst (pc := 41) (v := (ii 0)) hx hb dX0_round_41 (by decide) ?_
      replace hf := rA_s hf; obtain ⟨j9, hjj9, htj9, hij9, hf⟩ := hf
      refine x_iald (pc := 42) X V htj9 hij9 hjj9 dX0_round_42 ?_
      refine lv_aload_n (pc := 43) hx hb dX0_round_43 rfl (lv_at hl 1 rfl) ?_
      refine x_get (pc := 44) X V okX0 ht1 2 (by decide) q362 (v := va_rf (R x0 2)) rfl dX0_round_44 ?_
      refine x_topr ha2 ?_
      refine x_getN (pc := 47) X V okX1 ht3 1 (by decide) q224 (v := va_rf (R a2 1)) rfl dX0_round_47 ?_
      refine x_topr ha8 ?_
      refine lv_iload_n (pc := 50) hx hb dX0_round_50 rfl (lv_at hl 3 rfl) ?_
      replace hf := rA_s hf; obtain ⟨j10, hjj10, htj10, hij10, hf⟩ := hf
      refine x_iald (pc := 51) X V htj10 hij10 hjj10 dX0_round_51 ?_
      replace hf := bs hf; obtain ⟨r11, hk_12, hf⟩ := hf
      refine x_callV0 (pc := 52) (As := [.int (I a8 j9), .int (I a8 j10)]) (rest := []) X V (mX0_farOf l D dA s0 hk_12) okX0 ht1 q1294 q1296 qs29 q119 q1297 ⟨rfl, hsX0_farOf⟩ ⟨Nat.le_of_ble_eq_true rfl, Nat.le_of_ble_eq_true rfl⟩ rfl hl.1 rfl (Nat.le_of_ble_eq_true rfl) dX0_round_52 ⟨Nat.zero_le _, Nat.zero_le _⟩ (fun H locs V => W.eq (g2 := F0 m 55 ls [.int r11]) rfl ?_)
      refine lv_ldcw (pc := 55) (v := (ii 1000000)) hx hb X.1.2.2.2.1 (X.1.2.2.2.2 _ q1292) dX0_round_55 ?_
      refine lv_icmp_lt (pc := 58) (tgt := 63) hx hb dX0_round_58 (by decide) (fun c13 => ?_) (fun c13 => ?_)
      · replace hf := if_t hf c13
        replace hf := nm_s hf; obtain ⟨u14, hu14, hf⟩ := hf
        refine lv_iinc (pc := 63) (v := u14) (lv' := [(3, .int u14), (1, .int u7), (0, .ref x0), (2, .int x2)]) hx hb dX0_round_63 hl (k := 3) rfl (by rw [hu14]; rfl) (by decide) rfl (fun ls hl => ?_)
        refine lv_goto (pc := 66) (tgt := 10) hx hb dX0_round_66 (by decide) ?_
        exact ih hf V (lv_sub hl [2, 1, 3, 0] rfl)
      · replace hf := if_f hf c13
        refine lv_iconst (pc := 61) (v := (-1 : Int32)) hx hb dX0_round_61 (by decide) ?_
        cases hf
        exact x_iret (pc := 62) X V hr dX0_round_62
set_option maxHeartbeats 400000 in
set_option maxRecDepth 100000 in
theorem wX0_round_e {nf : Nat} {p : Program} {l : Launch} {e : Env} {s : State} {m : MethodId} {args : Array Value} {below : List Frame} {meth : Method} {c : Code} {D : va_G} {dA : Nat → ClassId} {s0 : Nat} {T : xT} {N : xT} {Z : Nat} {I : xI} {L : xL} {R : xR} {H : Heap} {locs : List Loc} {ls : Array Slot} {x0 : Nat} {ro : Int32} {Io : xI} (X : Cx D dA s0 p m c cX0_round 4 s args RX0 meth) (hr : meth.sig.returnType = (some .int)) (hf : fX0_round nf T N I R x0 = some (ro, Io)) (V : Iv D dA s0 s T N Z I L R H locs) (hl : lv_has ls 4 [(0, .ref x0)]) : W p l e { frames := 7, cells := 0, slots := 0, locals := 385 } s m args below meth c H locs 0 0 (MQ below (xQ D dA s0 (some (.int ro)) T N Z Io L R) args s 0 0 (fun q => s0 ≤ q)) (F0 m 0 ls []) := by
  have hx := X.1.1
  have hb := X.1.2.1
  unfold fX0_round at hf
  refine lv_aload_n (pc := 0) hx hb dX0_round_0 rfl (lv_at hl 0 rfl) ?_
  replace hf := tg_s hf; obtain ⟨ht3, hf⟩ := hf
  replace hf := bs hf; obtain ⟨I1, hk_2, hf⟩ := hf
  refine x_callV0 (pc := 1) (As := []) (rest := []) X V (mX0_laysFar l D dA s0 hk_2) okX0 ht3 q1288 q1290 qs28 q119 q1291 ⟨rfl, hsX0_laysFar⟩ ⟨Nat.le_of_ble_eq_true rfl, Nat.le_of_ble_eq_true rfl⟩ rfl hl.1 rfl (Nat.le_of_ble_eq_true rfl) dX0_round_1 ⟨Nat.zero_le _, Nat.zero_le _⟩ (fun H locs V => W.eq (g2 := F0 m 4 ls []) rfl ?_)
  refine lv_iconst (pc := 4) (v := (ii 0)) hx hb dX0_round_4 (by decide) ?_
  refine lv_istore_n (pc := 5) (lv' := [(1, .int (ii 0)), (0, .ref x0)]) hx hb dX0_round_5 rfl hl (by decide) rfl (fun ls hl => ?_)
  refine lv_iconst (pc := 6) (v := (ii 0)) hx hb dX0_round_6 (by decide) ?_
  refine lv_istore_n (pc := 7) (lv' := [(2, .int (ii 0)), (1, .int (ii 0)), (0, .ref x0)]) hx hb dX0_round_7 rfl hl (by decide) rfl (fun ls hl => ?_)
  refine lv_iconst (pc := 8) (v := (ii 0)) hx hb dX0_round_8 (by decide) ?_
  refine lv_istore_n (pc := 9) (lv' := [(3, .int (ii 0)), (2, .int (ii 0)), (1, .int (ii 0)), (0, .ref x0)]) hx hb dX0_round_9 rfl hl (by decide) rfl (fun ls hl => ?_)
  exact wX0_round_b10 X hr nf hf V (lv_sub hl [3, 2, 1, 0] rfl)
theorem mX0_round {nf : Nat} (l : Launch) (D : va_G) (dA : Nat → ClassId) (s0 : Nat) {T : xT} {N : xT} {Z : Nat} {I : xI} {L : xL} {R : xR} {x0 : Nat} {ro : Int32} {Io : xI} (hf : fX0_round nf T N I R x0 = some (ro, Io)) : XMet l D dA s0 yX0_round (ws_ yX0_round cX0_round 4 ((some .int))) (7) (385) [.ref x0] T N Z I L R (some (.int ro)) T N Z Io L R 0 0 :=
  x_start (own := RX0) rfl (by decide) (Nat.le_of_ble_eq_true rfl) (lv := [(0, .ref x0)]) rfl (fun p e s m below meth c ls X hr hini V hl => wX0_round_e X hr hf V hl)
set_option maxHeartbeats 400000 in
set_option maxRecDepth 100000 in
theorem wX0_dead_b4 {nf : Nat} {p : Program} {l : Launch} {e : Env} {s : State} {m : MethodId} {args : Array Value} {below : List Frame} {meth : Method} {c : Code} {D : va_G} {dA : Nat → ClassId} {s0 : Nat} {T : xT} {N : xT} {Z : Nat} {I : xI} {L : xL} {R : xR}  {ro : Int32} (X : Cx D dA s0 p m c cX0_dead 3 s args RX0 meth) (hr : meth.sig.returnType = (some .int))   (k : Nat) : ∀ {x0 : Nat} {x1 : Int32} {x2 : Int32} {H : Heap} {locs : List Loc} {ls : Array Slot} , fX0_dead_b4 nf T N I R k x0 x1 x2 = some ro → Iv D dA s0 s T N Z I L R H locs → lv_has ls 3 [(0, .ref x0), (1, .int x1), (2, .int x2)] → W p l e { frames := 2, cells := 0, slots := 0, locals := 45 } s m args below meth c H locs 0 0 (MQ below (xQ D dA s0 (some (.int ro)) T N Z I L R) args s 0 0 (fun q => s0 ≤ q)) (F0 m 4 ls []) := by
  have hx := X.1.1
  have hb := X.1.2.1
  induction k with
  | zero =>
    intro x0 x1 x2 H locs ls hf V hl
    exact absurd (show none = some _ from hf) (fun q => nomatch q)
  | succ k ih =>
    intro x0 x1 x2 H locs ls hf V hl
    rw [fX0_dead_b4] at hf
    refine lv_iload_n (pc := 4) hx hb dX0_dead_4 rfl (lv_at hl 2 rfl) ?_
    refine lv_bipush (pc := 5) (v := (ii 8)) hx hb dX0_dead_5 (by decide) ?_
    refine lv_icmp_ge (pc := 7) (tgt := 35) hx hb dX0_dead_7 (by decide) (fun c1 => ?_) (fun c1 => ?_)
    · replace hf := if_t hf c1
      refine lv_iload_n (pc := 35) hx hb dX0_dead_35 rfl (lv_at hl 1 rfl) ?_
      cases hf
      exact x_iret (pc := 36) X V hr dX0_dead_36
    · replace hf := if_f hf c1
      refine lv_iload_n (pc := 10) hx hb dX0_dead_10 rfl (lv_at hl 1 rfl) ?_
      refine lv_aload_n (pc := 11) hx hb dX0_dead_11 rfl (lv_at hl 0 rfl) ?_
      refine lv_iload_n (pc := 12) hx hb dX0_dead_12 rfl (lv_at hl 2 rfl) ?_
      replace hf := tg_s hf; obtain ⟨ht4, hf⟩ := hf
      replace hf := bs hf; obtain ⟨r2, hk_3, hf⟩ := hf
      refine x_callV0 (pc := 13) (As := [.int x2]) (rest := [.int x1]) X V (mX0_lanesAt l D dA s0 hk_3) okX0 ht4 q1392 q1394 qs39 q119 q1395 ⟨rfl, hsX0_lanesAt⟩ ⟨Nat.le_of_ble_eq_true rfl, Nat.le_of_ble_eq_true rfl⟩ rfl hl.1 rfl (Nat.le_of_ble_eq_true rfl) dX0_dead_13 ⟨Nat.zero_le _, Nat.zero_le _⟩ (fun H locs V => W.eq (g2 := F0 m 16 ls [.int r2, .int x1]) rfl ?_)
      refine lv_iconst (pc := 16) (v := (ii 1)) hx hb dX0_dead_16 (by decide) ?_
      refine lv_icmp_ne (pc := 17) (tgt := 26) hx hb dX0_dead_17 (by decide) (fun c5 => ?_) (fun c5 => ?_)
      · replace hf := if_f hf c5
        refine lv_iconst (pc := 26) (v := (ii 0)) hx hb dX0_dead_26 (by decide) ?_
        refine lv_ior (pc := 27) hx hb dX0_dead_27 ?_
        replace hf := nm_s hf; obtain ⟨u6, hu6, hf⟩ := hf
        refine x_topi hu6 ?_
        refine lv_istore_n (pc := 28) (lv' := [(1, .int u6), (0, .ref x0), (2, .int x2)]) hx hb dX0_dead_28 rfl hl (by decide) rfl (fun ls hl => ?_)
        replace hf := nm_s hf; obtain ⟨u7, hu7, hf⟩ := hf
        refine lv_iinc (pc := 29) (v := u7) (lv' := [(2, .int u7), (1, .int u6), (0, .ref x0)]) hx hb dX0_dead_29 hl (k := 2) rfl (by rw [hu7]; rfl) (by decide) rfl (fun ls hl => ?_)
        refine lv_goto (pc := 32) (tgt := 4) hx hb dX0_dead_32 (by decide) ?_
        exact ih hf V (lv_sub hl [2, 1, 0] rfl)
      · replace hf := if_t hf c5
        refine lv_iconst (pc := 20) (v := (ii 1)) hx hb dX0_dead_20 (by decide) ?_
        refine lv_iload_n (pc := 21) hx hb dX0_dead_21 rfl (lv_at hl 2 rfl) ?_
        refine lv_ishl (pc := 22) hx hb dX0_dead_22 ?_
        refine lv_goto (pc := 23) (tgt := 27) hx hb dX0_dead_23 (by decide) ?_
        refine lv_ior (pc := 27) hx hb dX0_dead_27 ?_
        replace hf := nm_s hf; obtain ⟨u8, hu8, hf⟩ := hf
        refine x_topi hu8 ?_
        refine lv_istore_n (pc := 28) (lv' := [(1, .int u8), (0, .ref x0), (2, .int x2)]) hx hb dX0_dead_28 rfl hl (by decide) rfl (fun ls hl => ?_)
        replace hf := nm_s hf; obtain ⟨u9, hu9, hf⟩ := hf
        refine lv_iinc (pc := 29) (v := u9) (lv' := [(2, .int u9), (1, .int u8), (0, .ref x0)]) hx hb dX0_dead_29 hl (k := 2) rfl (by rw [hu9]; rfl) (by decide) rfl (fun ls hl => ?_)
        refine lv_goto (pc := 32) (tgt := 4) hx hb dX0_dead_32 (by decide) ?_
        exact ih hf V (lv_sub hl [2, 1, 0] rfl)
set_option maxHeartbeats 400000 in
set_option maxRecDepth 100000 in
theorem wX0_dead_e {nf : Nat} {p : Program} {l : Launch} {e : Env} {s : State} {m : MethodId} {args : Array Value} {below : List Frame} {meth : Method} {c : Code} {D : va_G} {dA : Nat → ClassId} {s0 : Nat} {T : xT} {N : xT} {Z : Nat} {I : xI} {L : xL} {R : xR} {H : Heap} {locs : List Loc} {ls : Array Slot} {x0 : Nat} {ro : Int32} (X : Cx D dA s0 p m c cX0_dead 3 s args RX0 meth) (hr : meth.sig.returnType = (some .int)) (hf : fX0_dead nf T N I R x0 = some ro) (V : Iv D dA s0 s T N Z I L R H locs) (hl : lv_has ls 3 [(0, .ref x0)]) : W p l e { frames := 2, cells := 0, slots := 0, locals := 45 } s m args below meth c H locs 0 0 (MQ below (xQ D dA s0 (some (.int ro)) T N Z I L R) args s 0 0 (fun q => s0 ≤ q)) (F0 m 0 ls []) := by
  have hx := X.1.1
  have hb := X.1.2.1
  unfold fX0_dead at hf
  refine lv_iconst (pc := 0) (v := (ii 0)) hx hb dX0_dead_0 (by decide) ?_
  refine lv_istore_n (pc := 1) (lv' := [(1, .int (ii 0)), (0, .ref x0)]) hx hb dX0_dead_1 rfl hl (by decide) rfl (fun ls hl => ?_)
  refine lv_iconst (pc := 2) (v := (ii 0)) hx hb dX0_dead_2 (by decide) ?_
  refine lv_istore_n (pc := 3) (lv' := [(2, .int (ii 0)), (1, .int (ii 0)), (0, .ref x0)]) hx hb dX0_dead_3 rfl hl (by decide) rfl (fun ls hl => ?_)
  exact wX0_dead_b4 X hr nf hf V (lv_sub hl [2, 1, 0] rfl)
theorem mX0_dead {nf : Nat} (l : Launch) (D : va_G) (dA : Nat → ClassId) (s0 : Nat) {T : xT} {N : xT} {Z : Nat} {I : xI} {L : xL} {R : xR} {x0 : Nat} {ro : Int32} (hf : fX0_dead nf T N I R x0 = some ro) : XMet l D dA s0 yX0_dead (ws_ yX0_dead cX0_dead 3 ((some .int))) (2) (45) [.ref x0] T N Z I L R (some (.int ro)) T N Z I L R 0 0 :=
  x_start (own := RX0) rfl (by decide) (Nat.le_of_ble_eq_true rfl) (lv := [(0, .ref x0)]) rfl (fun p e s m below meth c ls X hr hini V hl => wX0_dead_e X hr hf V hl)
set_option maxHeartbeats 400000 in
set_option maxRecDepth 100000 in
theorem wX0_few_b151 {nf : Nat} {p : Program} {l : Launch} {e : Env} {s : State} {m : MethodId} {args : Array Value} {below : List Frame} {meth : Method} {c : Code} {D : va_G} {dA : Nat → ClassId} {s0 : Nat} {T : xT} {N : xT} {Z : Nat} {I : xI} {R : xR}  {ro : Int64} {Lo : xL} (X : Cx D dA s0 p m c cX0_few 6 s args RX0 meth) (hr : meth.sig.returnType = (some .long))   (k : Nat) : ∀ {L : xL} {x0 : Nat} {x1 : Int32} {x3 : Int64} {x5 : Int32} {H : Heap} {locs : List Loc} {ls : Array Slot} , fX0_few_b151 nf T N I R k L x0 x1 x3 x5 = some (ro, Lo) → Iv D dA s0 s T N Z I L R H locs → lv_has ls 6 [(0, .ref x0), (1, .int x1), (3, .long x3), (5, .int x5)] → W p l e { frames := 1, cells := 0, slots := 0, locals := 22 } s m args below meth c H locs 0 0 (MQ below (xQ D dA s0 (some (.long ro)) T N Z I Lo R) args s 0 0 (fun q => s0 ≤ q)) (F0 m 151 ls []) := by
  have hx := X.1.1
  have hb := X.1.2.1
  induction k with
  | zero =>
    intro L x0 x1 x3 x5 H locs ls hf V hl
    exact absurd (show none = some _ from hf) (fun q => nomatch q)
  | succ k ih =>
    intro L x0 x1 x3 x5 H locs ls hf V hl
    rw [fX0_few_b151] at hf
    refine lv_iload (pc := 151) hx hb dX0_few_151 (lv_at hl 3 rfl) ?_
    refine lv_iload_n (pc := 153) hx hb dX0_few_153 rfl (lv_at hl 1 rfl) ?_
    refine lv_icmp_ge (pc := 154) (tgt := 173) hx hb dX0_few_154 (by decide) (fun c1 => ?_) (fun c1 => ?_)
    · replace hf := if_t hf c1
      refine lv_lload_n (pc := 173) hx hb dX0_few_173 rfl (lv_at hl 2 rfl) ?_
      cases hf
      exact x_lret (pc := 174) X V hr dX0_few_174
    · replace hf := if_f hf c1
      refine lv_lload_n (pc := 157) hx hb dX0_few_157 rfl (lv_at hl 2 rfl) ?_
      refine lv_aload_n (pc := 158) hx hb dX0_few_158 rfl (lv_at hl 0 rfl) ?_
      replace hf := tg_s hf; obtain ⟨ht2, hf⟩ := hf
      replace hf := bs hf; obtain ⟨a3, ha3, hf⟩ := hf
      refine x_get (pc := 159) X V okX0 ht2 23 (by decide) q383 (v := va_rf (R x0 23)) rfl dX0_few_159 ?_
      refine x_topr ha3 ?_
      refine lv_iload (pc := 162) hx hb dX0_few_162 (lv_at hl 3 rfl) ?_
      replace hf := rA_s hf; obtain ⟨j4, hjj4, htj4, hij4, hf⟩ := hf
      refine x_lald (pc := 164) X V htj4 hij4 hjj4 dX0_few_164 ?_
      refine lv_ladd (pc := 165) hx hb dX0_few_165 ?_
      replace hf := nm_s hf; obtain ⟨u5, hu5, hf⟩ := hf
      refine x_topl hu5 ?_
      refine lv_lstore_n (pc := 166) (lv' := [(3, .long u5), (0, .ref x0), (1, .int x1), (5, .int x5)]) hx hb dX0_few_166 rfl hl (by decide) rfl (fun ls hl => ?_)
      replace hf := nm_s hf; obtain ⟨u6, hu6, hf⟩ := hf
      refine lv_iinc (pc := 167) (v := u6) (lv' := [(5, .int u6), (3, .long u5), (0, .ref x0), (1, .int x1)]) hx hb dX0_few_167 hl (k := 3) rfl (by rw [hu6]; rfl) (by decide) rfl (fun ls hl => ?_)
      refine lv_goto (pc := 170) (tgt := 151) hx hb dX0_few_170 (by decide) ?_
      exact ih hf V (lv_sub hl [2, 3, 1, 0] rfl)
set_option maxHeartbeats 400000 in
set_option maxRecDepth 100000 in
theorem wX0_few_b67 {nf : Nat} {p : Program} {l : Launch} {e : Env} {s : State} {m : MethodId} {args : Array Value} {below : List Frame} {meth : Method} {c : Code} {D : va_G} {dA : Nat → ClassId} {s0 : Nat} {T : xT} {N : xT} {Z : Nat} {I : xI} {R : xR} {kk57 : xL → Nat → Int32 → Int32 → Int32 → Option (Int64 × xL)} {ro : Int64} {Lo : xL} (X : Cx D dA s0 p m c cX0_few 6 s args RX0 meth) (hr : meth.sig.returnType = (some .long)) (hk57 : ∀ {L : xL} {x0 : Nat} {x1 : Int32} {x2 : Int32} {x3 : Int32} {H : Heap} {locs : List Loc} {ls : Array Slot} , kk57 L x0 x1 x2 x3 = some (ro, Lo) → Iv D dA s0 s T N Z I L R H locs → lv_has ls 6 [(0, .ref x0), (1, .int x1), (2, .int x2), (3, .int x3)] → W p l e { frames := 1, cells := 0, slots := 0, locals := 22 } s m args below meth c H locs 0 0 (MQ below (xQ D dA s0 (some (.long ro)) T N Z I Lo R) args s 0 0 (fun q => s0 ≤ q)) (F0 m 57 ls []))  (k : Nat) : ∀ {L : xL} {x0 : Nat} {x1 : Int32} {x2 : Int32} {x3 : Int32} {x4 : Int32} {H : Heap} {locs : List Loc} {ls : Array Slot} , fX0_few_b67 nf kk57 T N I R k L x0 x1 x2 x3 x4 = some (ro, Lo) → Iv D dA s0 s T N Z I L R H locs → lv_has ls 6 [(0, .ref x0), (1, .int x1), (2, .int x2), (3, .int x3), (4, .int x4)] → W p l e { frames := 1, cells := 0, slots := 0, locals := 22 } s m args below meth c H locs 0 0 (MQ below (xQ D dA s0 (some (.long ro)) T N Z I Lo R) args s 0 0 (fun q => s0 ≤ q)) (F0 m 67 ls []) := by
  have hx := X.1.1
  have hb := X.1.2.1
  induction k with
  | zero =>
    intro L x0 x1 x2 x3 x4 H locs ls hf V hl
    exact absurd (show none = some _ from hf) (fun q => nomatch q)
  | succ k ih =>
    intro L x0 x1 x2 x3 x4 H locs ls hf V hl
    rw [fX0_few_b67] at hf
    refine lv_iload (pc := 67) hx hb dX0_few_67 (lv_at hl 4 rfl) ?_
    refine lv_if_lt (pc := 69) (tgt := 140) hx hb dX0_few_69 (by decide) (fun c1 => ?_) (fun c1 => ?_)
    · replace hf := if_t hf c1
      replace hf := nm_s hf; obtain ⟨u2, hu2, hf⟩ := hf
      refine lv_iinc (pc := 140) (v := u2) (lv' := [(3, .int u2), (0, .ref x0), (1, .int x1), (2, .int x2), (4, .int x4)]) hx hb dX0_few_140 hl (k := 3) rfl (by rw [hu2]; rfl) (by decide) rfl (fun ls hl => ?_)
      refine lv_goto (pc := 143) (tgt := 57) hx hb dX0_few_143 (by decide) ?_
      exact hk57 hf V (lv_sub hl [1, 2, 3, 0] rfl)
    · replace hf := if_f hf c1
      refine lv_aload_n (pc := 72) hx hb dX0_few_72 rfl (lv_at hl 0 rfl) ?_
      replace hf := tg_s hf; obtain ⟨ht3, hf⟩ := hf
      replace hf := bs hf; obtain ⟨a4, ha4, hf⟩ := hf
      refine x_get (pc := 73) X V okX0 ht3 23 (by decide) q383 (v := va_rf (R x0 23)) rfl dX0_few_73 ?_
      refine x_topr ha4 ?_
      refine lv_iload (pc := 76) hx hb dX0_few_76 (lv_at hl 4 rfl) ?_
      refine lv_iconst (pc := 78) (v := (ii 1)) hx hb dX0_few_78 (by decide) ?_
      refine lv_iadd (pc := 79) hx hb dX0_few_79 ?_
      refine lv_dup2_11 (pc := 80) hx hb dX0_few_80 rfl rfl ?_
      replace hf := rA_s hf; obtain ⟨j5, hjj5, htj5, hij5, hf⟩ := hf
      refine x_lald (pc := 81) X V htj5 hij5 hjj5 dX0_few_81 ?_
      refine lv_aload_n (pc := 82) hx hb dX0_few_82 rfl (lv_at hl 0 rfl) ?_
      refine x_get (pc := 83) X V okX0 ht3 23 (by decide) q383 (v := va_rf (R x0 23)) rfl dX0_few_83 ?_
      refine x_topr ha4 ?_
      refine lv_iload (pc := 86) hx hb dX0_few_86 (lv_at hl 4 rfl) ?_
      replace hf := rA_s hf; obtain ⟨j6, hjj6, htj6, hij6, hf⟩ := hf
      refine x_lald (pc := 88) X V htj6 hij6 hjj6 dX0_few_88 ?_
      refine lv_aload_n (pc := 89) hx hb dX0_few_89 rfl (lv_at hl 0 rfl) ?_
      replace hf := bs hf; obtain ⟨a7, ha7, hf⟩ := hf
      refine x_get (pc := 90) X V okX0 ht3 2 (by decide) q362 (v := va_rf (R x0 2)) rfl dX0_few_90 ?_
      refine x_topr ha7 ?_
      replace hf := tg_s hf; obtain ⟨ht8, hf⟩ := hf
      refine x_getN (pc := 93) X V okX1 ht8 11 (by decide) q244 (v := .int (I a7 11)) rfl dX0_few_93 ?_
      refine lv_i2l (pc := 96) hx hb dX0_few_96 rfl ?_
      refine lv_lmul (pc := 97) hx hb dX0_few_97 ?_
      refine lv_ldc2 (pc := 98) (v := (jj 10)) hx hb X.1.2.2.2.1 (X.1.2.2.2.2 _ q1413) dX0_few_98 ?_
      refine lv_ldiv (pc := 101) hx hb dX0_few_101 (by decide) ?_
      refine lv_ladd (pc := 102) hx hb dX0_few_102 ?_
      replace hf := nm_s hf; obtain ⟨L9, hL9, hf⟩ := hf
      refine x_last (pc := 103) X V htj5 hij5 hjj5 hL9 dX0_few_103 (fun H locs V => ?_)
      refine lv_aload_n (pc := 104) hx hb dX0_few_104 rfl (lv_at hl 0 rfl) ?_
      refine x_get (pc := 105) X V okX0 ht3 23 (by decide) q383 (v := va_rf (R x0 23)) rfl dX0_few_105 ?_
      refine x_topr ha4 ?_
      refine lv_iload (pc := 108) hx hb dX0_few_108 (lv_at hl 4 rfl) ?_
      refine lv_aload_n (pc := 110) hx hb dX0_few_110 rfl (lv_at hl 0 rfl) ?_
      refine x_get (pc := 111) X V okX0 ht3 23 (by decide) q383 (v := va_rf (R x0 23)) rfl dX0_few_111 ?_
      refine x_topr ha4 ?_
      refine lv_iload (pc := 114) hx hb dX0_few_114 (lv_at hl 4 rfl) ?_
      refine x_lald (pc := 116) X V htj6 hij6 hjj6 dX0_few_116 ?_
      refine lv_bipush (pc := 117) (v := (ii 10)) hx hb dX0_few_117 (by decide) ?_
      refine lv_aload_n (pc := 119) hx hb dX0_few_119 rfl (lv_at hl 0 rfl) ?_
      refine x_get (pc := 120) X V okX0 ht3 2 (by decide) q362 (v := va_rf (R x0 2)) rfl dX0_few_120 ?_
      refine x_topr ha7 ?_
      refine x_getN (pc := 123) X V okX1 ht8 11 (by decide) q244 (v := .int (I a7 11)) rfl dX0_few_123 ?_
      refine lv_isub (pc := 126) hx hb dX0_few_126 ?_
      refine lv_i2l (pc := 127) hx hb dX0_few_127 rfl ?_
      refine lv_lmul (pc := 128) hx hb dX0_few_128 ?_
      refine lv_ldc2 (pc := 129) (v := (jj 10)) hx hb X.1.2.2.2.1 (X.1.2.2.2.2 _ q1413) dX0_few_129 ?_
      refine lv_ldiv (pc := 132) hx hb dX0_few_132 (by decide) ?_
      replace hf := nm_s hf; obtain ⟨L10, hL10, hf⟩ := hf
      refine x_last (pc := 133) X V htj6 hij6 hjj6 hL10 dX0_few_133 (fun H locs V => ?_)
      replace hf := nm_s hf; obtain ⟨u11, hu11, hf⟩ := hf
      refine lv_iinc (pc := 134) (v := u11) (lv' := [(4, .int u11), (0, .ref x0), (1, .int x1), (2, .int x2), (3, .int x3)]) hx hb dX0_few_134 hl (k := 4) rfl (by rw [hu11]; rfl) (by decide) rfl (fun ls hl => ?_)
      refine lv_goto (pc := 137) (tgt := 67) hx hb dX0_few_137 (by decide) ?_
      exact ih hf V (lv_sub hl [1, 2, 3, 4, 0] rfl)
set_option maxHeartbeats 400000 in
set_option maxRecDepth 100000 in
theorem wX0_few_b57 {nf : Nat} {p : Program} {l : Launch} {e : Env} {s : State} {m : MethodId} {args : Array Value} {below : List Frame} {meth : Method} {c : Code} {D : va_G} {dA : Nat → ClassId} {s0 : Nat} {T : xT} {N : xT} {Z : Nat} {I : xI} {R : xR}  {ro : Int64} {Lo : xL} (X : Cx D dA s0 p m c cX0_few 6 s args RX0 meth) (hr : meth.sig.returnType = (some .long))   (k : Nat) : ∀ {L : xL} {x0 : Nat} {x1 : Int32} {x2 : Int32} {x3 : Int32} {H : Heap} {locs : List Loc} {ls : Array Slot} , fX0_few_b57 nf T N I R k L x0 x1 x2 x3 = some (ro, Lo) → Iv D dA s0 s T N Z I L R H locs → lv_has ls 6 [(0, .ref x0), (1, .int x1), (2, .int x2), (3, .int x3)] → W p l e { frames := 1, cells := 0, slots := 0, locals := 22 } s m args below meth c H locs 0 0 (MQ below (xQ D dA s0 (some (.long ro)) T N Z I Lo R) args s 0 0 (fun q => s0 ≤ q)) (F0 m 57 ls []) := by
  have hx := X.1.1
  have hb := X.1.2.1
  induction k with
  | zero =>
    intro L x0 x1 x2 x3 H locs ls hf V hl
    exact absurd (show none = some _ from hf) (fun q => nomatch q)
  | succ k ih =>
    intro L x0 x1 x2 x3 H locs ls hf V hl
    rw [fX0_few_b57] at hf
    refine lv_iload_n (pc := 57) hx hb dX0_few_57 rfl (lv_at hl 3 rfl) ?_
    refine lv_iload_n (pc := 58) hx hb dX0_few_58 rfl (lv_at hl 2 rfl) ?_
    refine lv_icmp_ge (pc := 59) (tgt := 146) hx hb dX0_few_59 (by decide) (fun c1 => ?_) (fun c1 => ?_)
    · replace hf := if_t hf c1
      refine lv_lconst (pc := 146) (v := (jj 0)) hx hb dX0_few_146 (by decide) ?_
      refine lv_lstore_n (pc := 147) (lv' := [(3, .long (jj 0)), (0, .ref x0), (1, .int x1), (2, .int x2)]) hx hb dX0_few_147 rfl hl (by decide) rfl (fun ls hl => ?_)
      refine lv_iconst (pc := 148) (v := (ii 0)) hx hb dX0_few_148 (by decide) ?_
      refine lv_istore (pc := 149) (lv' := [(5, .int (ii 0)), (3, .long (jj 0)), (0, .ref x0), (1, .int x1), (2, .int x2)]) hx hb dX0_few_149 hl (by decide) rfl (fun ls hl => ?_)
      exact wX0_few_b151 X hr nf hf V (lv_sub hl [2, 3, 1, 0] rfl)
    · replace hf := if_f hf c1
      refine lv_iload_n (pc := 62) hx hb dX0_few_62 rfl (lv_at hl 1 rfl) ?_
      refine lv_iconst (pc := 63) (v := (ii 1)) hx hb dX0_few_63 (by decide) ?_
      refine lv_isub (pc := 64) hx hb dX0_few_64 ?_
      replace hf := nm_s hf; obtain ⟨u2, hu2, hf⟩ := hf
      refine x_topi hu2 ?_
      refine lv_istore (pc := 65) (lv' := [(4, .int u2), (0, .ref x0), (1, .int x1), (2, .int x2), (3, .int x3)]) hx hb dX0_few_65 hl (by decide) rfl (fun ls hl => ?_)
      exact wX0_few_b67 X hr ih nf hf V (lv_sub hl [1, 2, 3, 4, 0] rfl)
set_option maxHeartbeats 400000 in
set_option maxRecDepth 100000 in
theorem wX0_few_b26 {nf : Nat} {p : Program} {l : Launch} {e : Env} {s : State} {m : MethodId} {args : Array Value} {below : List Frame} {meth : Method} {c : Code} {D : va_G} {dA : Nat → ClassId} {s0 : Nat} {T : xT} {N : xT} {Z : Nat} {I : xI} {R : xR}  {ro : Int64} {Lo : xL} (X : Cx D dA s0 p m c cX0_few 6 s args RX0 meth) (hr : meth.sig.returnType = (some .long))   (k : Nat) : ∀ {L : xL} {x0 : Nat} {x1 : Int32} {x2 : Int32} {x3 : Int32} {H : Heap} {locs : List Loc} {ls : Array Slot} , fX0_few_b26 nf T N I R k L x0 x1 x2 x3 = some (ro, Lo) → Iv D dA s0 s T N Z I L R H locs → lv_has ls 6 [(0, .ref x0), (1, .int x1), (2, .int x2), (3, .int x3)] → W p l e { frames := 1, cells := 0, slots := 0, locals := 22 } s m args below meth c H locs 0 0 (MQ below (xQ D dA s0 (some (.long ro)) T N Z I Lo R) args s 0 0 (fun q => s0 ≤ q)) (F0 m 26 ls []) := by
  have hx := X.1.1
  have hb := X.1.2.1
  induction k with
  | zero =>
    intro L x0 x1 x2 x3 H locs ls hf V hl
    exact absurd (show none = some _ from hf) (fun q => nomatch q)
  | succ k ih =>
    intro L x0 x1 x2 x3 H locs ls hf V hl
    rw [fX0_few_b26] at hf
    refine lv_iload_n (pc := 26) hx hb dX0_few_26 rfl (lv_at hl 3 rfl) ?_
    refine lv_bipush (pc := 27) (v := (ii 20)) hx hb dX0_few_27 (by decide) ?_
    refine lv_icmp_gt (pc := 29) (tgt := 55) hx hb dX0_few_29 (by decide) (fun c1 => ?_) (fun c1 => ?_)
    · replace hf := if_t hf c1
      refine lv_iconst (pc := 55) (v := (ii 0)) hx hb dX0_few_55 (by decide) ?_
      refine lv_istore_n (pc := 56) (lv' := [(3, .int (ii 0)), (0, .ref x0), (1, .int x1), (2, .int x2)]) hx hb dX0_few_56 rfl hl (by decide) rfl (fun ls hl => ?_)
      exact wX0_few_b57 X hr nf hf V (lv_sub hl [1, 2, 3, 0] rfl)
    · replace hf := if_f hf c1
      refine lv_aload_n (pc := 32) hx hb dX0_few_32 rfl (lv_at hl 0 rfl) ?_
      replace hf := tg_s hf; obtain ⟨ht2, hf⟩ := hf
      replace hf := bs hf; obtain ⟨a3, ha3, hf⟩ := hf
      refine x_get (pc := 33) X V okX0 ht2 23 (by decide) q383 (v := va_rf (R x0 23)) rfl dX0_few_33 ?_
      refine x_topr ha3 ?_
      refine lv_iload_n (pc := 36) hx hb dX0_few_36 rfl (lv_at hl 3 rfl) ?_
      refine lv_iload_n (pc := 37) hx hb dX0_few_37 rfl (lv_at hl 3 rfl) ?_
      refine lv_if_ne (pc := 38) (tgt := 47) hx hb dX0_few_38 (by decide) (fun c4 => ?_) (fun c4 => ?_)
      · replace hf := if_f hf c4
        refine lv_lconst (pc := 47) (v := (jj 0)) hx hb dX0_few_47 (by decide) ?_
        replace hf := rA_s hf; obtain ⟨j5, hjj5, htj5, hij5, hf⟩ := hf
        replace hf := nm_s hf; obtain ⟨L6, hL6, hf⟩ := hf
        refine x_last (pc := 48) X V htj5 hij5 hjj5 hL6 dX0_few_48 (fun H locs V => ?_)
        replace hf := nm_s hf; obtain ⟨u7, hu7, hf⟩ := hf
        refine lv_iinc (pc := 49) (v := u7) (lv' := [(3, .int u7), (0, .ref x0), (1, .int x1), (2, .int x2)]) hx hb dX0_few_49 hl (k := 3) rfl (by rw [hu7]; rfl) (by decide) rfl (fun ls hl => ?_)
        refine lv_goto (pc := 52) (tgt := 26) hx hb dX0_few_52 (by decide) ?_
        exact ih hf V (lv_sub hl [1, 2, 3, 0] rfl)
      · replace hf := if_t hf c4
        refine lv_ldc2 (pc := 41) (v := (jj 1000000000000)) hx hb X.1.2.2.2.1 (X.1.2.2.2.2 _ q1412) dX0_few_41 ?_
        refine lv_goto (pc := 44) (tgt := 48) hx hb dX0_few_44 (by decide) ?_
        replace hf := rA_s hf; obtain ⟨j8, hjj8, htj8, hij8, hf⟩ := hf
        replace hf := nm_s hf; obtain ⟨L9, hL9, hf⟩ := hf
        refine x_last (pc := 48) X V htj8 hij8 hjj8 hL9 dX0_few_48 (fun H locs V => ?_)
        replace hf := nm_s hf; obtain ⟨u10, hu10, hf⟩ := hf
        refine lv_iinc (pc := 49) (v := u10) (lv' := [(3, .int u10), (0, .ref x0), (1, .int x1), (2, .int x2)]) hx hb dX0_few_49 hl (k := 3) rfl (by rw [hu10]; rfl) (by decide) rfl (fun ls hl => ?_)
        refine lv_goto (pc := 52) (tgt := 26) hx hb dX0_few_52 (by decide) ?_
        exact ih hf V (lv_sub hl [1, 2, 3, 0] rfl)
set_option maxHeartbeats 400000 in
set_option maxRecDepth 100000 in
theorem wX0_few_e {nf : Nat} {p : Program} {l : Launch} {e : Env} {s : State} {m : MethodId} {args : Array Value} {below : List Frame} {meth : Method} {c : Code} {D : va_G} {dA : Nat → ClassId} {s0 : Nat} {T : xT} {N : xT} {Z : Nat} {I : xI} {L : xL} {R : xR} {H : Heap} {locs : List Loc} {ls : Array Slot} {x0 : Nat} {x1 : Int32} {x2 : Int32} {ro : Int64} {Lo : xL} (X : Cx D dA s0 p m c cX0_few 6 s args RX0 meth) (hr : meth.sig.returnType = (some .long)) (hf : fX0_few nf T N I L R x0 x1 x2 = some (ro, Lo)) (V : Iv D dA s0 s T N Z I L R H locs) (hl : lv_has ls 6 [(0, .ref x0), (1, .int x1), (2, .int x2)]) : W p l e { frames := 1, cells := 0, slots := 0, locals := 22 } s m args below meth c H locs 0 0 (MQ below (xQ D dA s0 (some (.long ro)) T N Z I Lo R) args s 0 0 (fun q => s0 ≤ q)) (F0 m 0 ls []) := by
  have hx := X.1.1
  have hb := X.1.2.1
  unfold fX0_few at hf
  refine lv_iload_n (pc := 0) hx hb dX0_few_0 rfl (lv_at hl 1 rfl) ?_
  refine lv_iconst (pc := 1) (v := (ii 1)) hx hb dX0_few_1 (by decide) ?_
  refine lv_bipush (pc := 2) (v := (ii 20)) hx hb dX0_few_2 (by decide) ?_
  replace hf := bs hf; obtain ⟨r1, hk_2, hf⟩ := hf
  refine x_callS0 (pc := 4) (As := [.int x1, .int (ii 1), .int (ii 20)]) (rest := []) X V (mX0_in l D dA s0 hk_2) q449 q450 q119 q451 hsX0_in ⟨Nat.le_of_ble_eq_true rfl, Nat.le_of_ble_eq_true rfl⟩ rfl hl.1 rfl (Nat.le_of_ble_eq_true rfl) dX0_few_4 ⟨Nat.zero_le _, Nat.zero_le _⟩ (fun H locs V => W.eq (g2 := F0 m 7 ls [.int r1]) rfl ?_)
  refine lv_if_eq (pc := 7) (tgt := 20) hx hb dX0_few_7 (by decide) (fun c3 => ?_) (fun c3 => ?_)
  · replace hf := if_t hf c3
    refine lv_ldc2 (pc := 20) (v := (-1 : Int64)) hx hb X.1.2.2.2.1 (X.1.2.2.2.2 _ q601) dX0_few_20 ?_
    cases hf
    exact x_lret (pc := 23) X V hr dX0_few_23
  · replace hf := if_f hf c3
    refine lv_iload_n (pc := 10) hx hb dX0_few_10 rfl (lv_at hl 2 rfl) ?_
    refine lv_iconst (pc := 11) (v := (ii 0)) hx hb dX0_few_11 (by decide) ?_
    refine lv_bipush (pc := 12) (v := (ii 99)) hx hb dX0_few_12 (by decide) ?_
    replace hf := bs hf; obtain ⟨r4, hk_5, hf⟩ := hf
    refine x_callS0 (pc := 14) (As := [.int x2, .int (ii 0), .int (ii 99)]) (rest := []) X V (mX0_in l D dA s0 hk_5) q449 q450 q119 q451 hsX0_in ⟨Nat.le_of_ble_eq_true rfl, Nat.le_of_ble_eq_true rfl⟩ rfl hl.1 rfl (Nat.le_of_ble_eq_true rfl) dX0_few_14 ⟨Nat.zero_le _, Nat.zero_le _⟩ (fun H locs V => W.eq (g2 := F0 m 17 ls [.int r4]) rfl ?_)
    refine lv_if_ne (pc := 17) (tgt := 24) hx hb dX0_few_17 (by decide) (fun c6 => ?_) (fun c6 => ?_)
    · replace hf := if_f hf c6
      refine lv_iconst (pc := 24) (v := (ii 0)) hx hb dX0_few_24 (by decide) ?_
      refine lv_istore_n (pc := 25) (lv' := [(3, .int (ii 0)), (0, .ref x0), (1, .int x1), (2, .int x2)]) hx hb dX0_few_25 rfl hl (by decide) rfl (fun ls hl => ?_)
      exact wX0_few_b26 X hr nf hf V (lv_sub hl [1, 2, 3, 0] rfl)
    · replace hf := if_t hf c6
      refine lv_ldc2 (pc := 20) (v := (-1 : Int64)) hx hb X.1.2.2.2.1 (X.1.2.2.2.2 _ q601) dX0_few_20 ?_
      cases hf
      exact x_lret (pc := 23) X V hr dX0_few_23
theorem mX0_few {nf : Nat} (l : Launch) (D : va_G) (dA : Nat → ClassId) (s0 : Nat) {T : xT} {N : xT} {Z : Nat} {I : xI} {L : xL} {R : xR} {x0 : Nat} {x1 : Int32} {x2 : Int32} {ro : Int64} {Lo : xL} (hf : fX0_few nf T N I L R x0 x1 x2 = some (ro, Lo)) : XMet l D dA s0 yX0_few (ws_ yX0_few cX0_few 6 ((some .long))) (1) (22) [.ref x0, .int x1, .int x2] T N Z I L R (some (.long ro)) T N Z I Lo R 0 0 :=
  x_start (own := RX0) rfl (by decide) (Nat.le_of_ble_eq_true rfl) (lv := [(0, .ref x0), (1, .int x1), (2, .int x2)]) rfl (fun p e s m below meth c ls X hr hini V hl => wX0_few_e X hr hf V hl)
set_option maxHeartbeats 400000 in
set_option maxRecDepth 100000 in
theorem wX0_compare_e {nf : Nat} {p : Program} {l : Launch} {e : Env} {s : State} {m : MethodId} {args : Array Value} {below : List Frame} {meth : Method} {c : Code} {D : va_G} {dA : Nat → ClassId} {s0 : Nat} {T : xT} {N : xT} {Z : Nat} {I : xI} {L : xL} {R : xR} {H : Heap} {locs : List Loc} {ls : Array Slot} {x0 : Nat} {x1 : Int32} {x2 : Int32} {ro : Int32} {Io : xI} {Lo : xL} (X : Cx D dA s0 p m c cX0_compare 5 s args RX0 meth) (hr : meth.sig.returnType = (some .int)) (hf : fX0_compare nf T N I L R x0 x1 x2 = some (ro, Io, Lo)) (V : Iv D dA s0 s T N Z I L R H locs) (hl : lv_has ls 5 [(0, .ref x0), (1, .int x1), (2, .int x2)]) : W p l e { frames := 194, cells := 0, slots := 0, locals := 9429 } s m args below meth c H locs 0 0 (MQ below (xQ D dA s0 (some (.int ro)) T N Z Io Lo R) args s 0 0 (fun q => s0 ≤ q)) (F0 m 0 ls []) := by
  have hx := X.1.1
  have hb := X.1.2.1
  unfold fX0_compare at hf
  refine lv_aload_n (pc := 0) hx hb dX0_compare_0 rfl (lv_at hl 0 rfl) ?_
  refine lv_iload_n (pc := 1) hx hb dX0_compare_1 rfl (lv_at hl 1 rfl) ?_
  replace hf := tg_s hf; obtain ⟨ht3, hf⟩ := hf
  replace hf := bs hf; obtain ⟨r1, hk_2, hf⟩ := hf
  refine x_callV0 (pc := 2) (As := [.int x1]) (rest := []) X V (mX0_isLaw l D dA s0 hk_2) okX0 ht3 q1211 q1213 qs18 q119 q1214 ⟨rfl, hsX0_isLaw⟩ ⟨Nat.le_of_ble_eq_true rfl, Nat.le_of_ble_eq_true rfl⟩ rfl hl.1 rfl (Nat.le_of_ble_eq_true rfl) dX0_compare_2 ⟨Nat.zero_le _, Nat.zero_le _⟩ (fun H locs V => W.eq (g2 := F0 m 5 ls [.int r1]) rfl ?_)
  refine lv_if_eq (pc := 5) (tgt := 16) hx hb dX0_compare_5 (by decide) (fun c4 => ?_) (fun c4 => ?_)
  · replace hf := if_t hf c4
    refine lv_iconst (pc := 16) (v := (-1 : Int32)) hx hb dX0_compare_16 (by decide) ?_
    cases hf
    exact x_iret (pc := 17) X V hr dX0_compare_17
  · replace hf := if_f hf c4
    refine lv_aload_n (pc := 8) hx hb dX0_compare_8 rfl (lv_at hl 0 rfl) ?_
    refine lv_iload_n (pc := 9) hx hb dX0_compare_9 rfl (lv_at hl 2 rfl) ?_
    replace hf := bs hf; obtain ⟨r5, hk_6, hf⟩ := hf
    refine x_callV0 (pc := 10) (As := [.int x2]) (rest := []) X V (mX0_isChild l D dA s0 hk_6) okX0 ht3 q588 q590 qs8 q119 q591 ⟨rfl, hsX0_isChild⟩ ⟨Nat.le_of_ble_eq_true rfl, Nat.le_of_ble_eq_true rfl⟩ rfl hl.1 rfl (Nat.le_of_ble_eq_true rfl) dX0_compare_10 ⟨Nat.zero_le _, Nat.zero_le _⟩ (fun H locs V => W.eq (g2 := F0 m 13 ls [.int r5]) rfl ?_)
    refine lv_if_ne (pc := 13) (tgt := 18) hx hb dX0_compare_13 (by decide) (fun c7 => ?_) (fun c7 => ?_)
    · replace hf := if_f hf c7
      refine lv_aload_n (pc := 18) hx hb dX0_compare_18 rfl (lv_at hl 0 rfl) ?_
      replace hf := bs hf; obtain ⟨a8, ha8, hf⟩ := hf
      refine x_get (pc := 19) X V okX0 ht3 2 (by decide) q362 (v := va_rf (R x0 2)) rfl dX0_compare_19 ?_
      refine x_topr ha8 ?_
      replace hf := tg_s hf; obtain ⟨ht9, hf⟩ := hf
      refine x_getN (pc := 22) X V okX1 ht9 13 (by decide) q248 (v := .int (I a8 13)) rfl dX0_compare_22 ?_
      replace hf := nm_s hf; obtain ⟨u10, hu10, hf⟩ := hf
      refine x_topi hu10 ?_
      refine lv_istore_n (pc := 25) (lv' := [(3, .int u10), (0, .ref x0), (1, .int x1), (2, .int x2)]) hx hb dX0_compare_25 rfl hl (by decide) rfl (fun ls hl => ?_)
      refine lv_aload_n (pc := 26) hx hb dX0_compare_26 rfl (lv_at hl 1 rfl) ?_
      refine x_get (pc := 27) X V okX0 ht3 2 (by decide) q362 (v := va_rf (R x0 2)) rfl dX0_compare_27 ?_
      refine x_topr ha8 ?_
      refine lv_iload_n (pc := 30) hx hb dX0_compare_30 rfl (lv_at hl 2 rfl) ?_
      replace hf := nm_s hf; obtain ⟨I11, hI11, hf⟩ := hf
      refine x_putNi (pc := 31) X V okX1 (by decide) ht9 13 (by decide) q248 rfl hI11 (fun _ _ _ => rfl) rfl rfl dX0_compare_31 (fun H locs V => ?_)
      refine lv_aload_n (pc := 34) hx hb dX0_compare_34 rfl (lv_at hl 1 rfl) ?_
      refine lv_aload_n (pc := 35) hx hb dX0_compare_35 rfl (lv_at hl 1 rfl) ?_
      replace hf := bs hf; obtain ⟨r12, hk_13, hf⟩ := hf
      refine x_callV0 (pc := 36) (As := []) (rest := [.ref x0]) X V (mX0_table l D dA s0 hk_13) okX0 ht3 q568 q570 qs6 q119 q571 ⟨rfl, hsX0_table⟩ ⟨Nat.le_of_ble_eq_true rfl, Nat.le_of_ble_eq_true rfl⟩ rfl hl.1 rfl (Nat.le_of_ble_eq_true rfl) dX0_compare_36 ⟨Nat.zero_le _, Nat.zero_le _⟩ (fun H locs V => W.eq (g2 := F0 m 39 ls [.ref r12, .ref x0]) rfl ?_)
      refine lv_iload_n (pc := 39) hx hb dX0_compare_39 rfl (lv_at hl 3 rfl) ?_
      replace hf := b3s hf; obtain ⟨r14, I15, L16, hk_17, hf⟩ := hf
      refine x_callV0 (pc := 40) (As := [.ref r12, .int x2]) (rest := []) X V (mX0_laneNext l D dA s0 hk_17) okX0 ht3 q679 q681 qs11 q119 q682 ⟨rfl, hsX0_laneNext⟩ ⟨Nat.le_of_ble_eq_true rfl, Nat.le_of_ble_eq_true rfl⟩ rfl hl.1 rfl (Nat.le_of_ble_eq_true rfl) dX0_compare_40 ⟨Nat.zero_le _, Nat.zero_le _⟩ (fun H locs V => W.eq (g2 := F0 m 43 ls [.int r14]) rfl ?_)
      refine lv_istore (pc := 43) (lv' := [(4, .int r14), (3, .int u10), (0, .ref x0), (1, .int x1), (2, .int x2)]) hx hb dX0_compare_43 hl (by decide) rfl (fun ls hl => ?_)
      refine lv_aload_n (pc := 45) hx hb dX0_compare_45 rfl (lv_at hl 2 rfl) ?_
      refine x_get (pc := 46) X V okX0 ht3 2 (by decide) q362 (v := va_rf (R x0 2)) rfl dX0_compare_46 ?_
      refine x_topr ha8 ?_
      refine lv_iload_n (pc := 49) hx hb dX0_compare_49 rfl (lv_at hl 1 rfl) ?_
      replace hf := nm_s hf; obtain ⟨I18, hI18, hf⟩ := hf
      refine x_putNi (pc := 50) X V okX1 (by decide) ht9 13 (by decide) q248 rfl hI18 (fun _ _ _ => rfl) rfl rfl dX0_compare_50 (fun H locs V => ?_)
      refine lv_iload (pc := 53) hx hb dX0_compare_53 (lv_at hl 0 rfl) ?_
      refine lv_iconst (pc := 55) (v := (-1 : Int32)) hx hb dX0_compare_55 (by decide) ?_
      refine lv_icmp_ne (pc := 56) (tgt := 71) hx hb dX0_compare_56 (by decide) (fun c19 => ?_) (fun c19 => ?_)
      · replace hf := if_f hf c19
        refine lv_aload_n (pc := 71) hx hb dX0_compare_71 rfl (lv_at hl 2 rfl) ?_
        refine x_get (pc := 72) X V okX0 ht3 2 (by decide) q362 (v := va_rf (R x0 2)) rfl dX0_compare_72 ?_
        refine x_topr ha8 ?_
        refine lv_iload (pc := 75) hx hb dX0_compare_75 (lv_at hl 0 rfl) ?_
        refine lv_aload_n (pc := 77) hx hb dX0_compare_77 rfl (lv_at hl 2 rfl) ?_
        replace hf := bs hf; obtain ⟨r20, hk_21, hf⟩ := hf
        refine x_callV0 (pc := 78) (As := []) (rest := [.int r14, .ref a8]) X V (mX0_table l D dA s0 hk_21) okX0 ht3 q568 q570 qs6 q119 q571 ⟨rfl, hsX0_table⟩ ⟨Nat.le_of_ble_eq_true rfl, Nat.le_of_ble_eq_true rfl⟩ rfl hl.1 rfl (Nat.le_of_ble_eq_true rfl) dX0_compare_78 ⟨Nat.zero_le _, Nat.zero_le _⟩ (fun H locs V => W.eq (g2 := F0 m 81 ls [.ref r20, .int r14, .ref a8]) rfl ?_)
        replace hf := tg_s hf; obtain ⟨ht22, hf⟩ := hf
        replace hf := bs hf; obtain ⟨a23, ha23, hf⟩ := hf
        refine x_getN (pc := 81) X V okX2 ht22 0 (by decide) q176 (v := va_rf (R r20 0)) rfl dX0_compare_81 ?_
        refine x_topr ha23 ?_
        refine lv_iload_n (pc := 84) hx hb dX0_compare_84 rfl (lv_at hl 4 rfl) ?_
        replace hf := rA_s hf; obtain ⟨j24, hjj24, htj24, hij24, hf⟩ := hf
        refine x_iald (pc := 85) X V htj24 hij24 hjj24 dX0_compare_85 ?_
        replace hf := bs hf; obtain ⟨r25, hk_26, hf⟩ := hf
        refine x_callV0 (pc := 86) (As := [.int r14, .int (I18 a23 j24)]) (rest := []) X V (mX1_otherEnd l D dA s0 hk_26) okX1 ht9 q1232 q1233 q1234 q120 q1235 ⟨rfl, hsX1_otherEnd⟩ ⟨Nat.le_of_ble_eq_true rfl, Nat.le_of_ble_eq_true rfl⟩ rfl hl.1 rfl (Nat.le_of_ble_eq_true rfl) dX0_compare_86 ⟨Nat.zero_le _, Nat.zero_le _⟩ (fun H locs V => W.eq (g2 := F0 m 89 ls [.int r25]) rfl ?_)
        cases hf
        exact x_iret (pc := 89) X V hr dX0_compare_89
      · replace hf := if_t hf c19
        refine lv_aload_n (pc := 59) hx hb dX0_compare_59 rfl (lv_at hl 2 rfl) ?_
        replace hf := bs hf; obtain ⟨r27, hk_28, hf⟩ := hf
        refine x_callV0 (pc := 60) (As := []) (rest := []) X V (mX0_table l D dA s0 hk_28) okX0 ht3 q568 q570 qs6 q119 q571 ⟨rfl, hsX0_table⟩ ⟨Nat.le_of_ble_eq_true rfl, Nat.le_of_ble_eq_true rfl⟩ rfl hl.1 rfl (Nat.le_of_ble_eq_true rfl) dX0_compare_60 ⟨Nat.zero_le _, Nat.zero_le _⟩ (fun H locs V => W.eq (g2 := F0 m 63 ls [.ref r27]) rfl ?_)
        replace hf := tg_s hf; obtain ⟨ht29, hf⟩ := hf
        replace hf := bs hf; obtain ⟨a30, ha30, hf⟩ := hf
        refine x_getN (pc := 63) X V okX2 ht29 0 (by decide) q176 (v := va_rf (R r27 0)) rfl dX0_compare_63 ?_
        refine x_topr ha30 ?_
        refine lv_iload_n (pc := 66) hx hb dX0_compare_66 rfl (lv_at hl 4 rfl) ?_
        replace hf := rA_s hf; obtain ⟨j31, hjj31, htj31, hij31, hf⟩ := hf
        refine x_iald (pc := 67) X V htj31 hij31 hjj31 dX0_compare_67 ?_
        refine lv_goto (pc := 68) (tgt := 89) hx hb dX0_compare_68 (by decide) ?_
        cases hf
        exact x_iret (pc := 89) X V hr dX0_compare_89
    · replace hf := if_t hf c7
      refine lv_iconst (pc := 16) (v := (-1 : Int32)) hx hb dX0_compare_16 (by decide) ?_
      cases hf
      exact x_iret (pc := 17) X V hr dX0_compare_17
theorem mX0_compare {nf : Nat} (l : Launch) (D : va_G) (dA : Nat → ClassId) (s0 : Nat) {T : xT} {N : xT} {Z : Nat} {I : xI} {L : xL} {R : xR} {x0 : Nat} {x1 : Int32} {x2 : Int32} {ro : Int32} {Io : xI} {Lo : xL} (hf : fX0_compare nf T N I L R x0 x1 x2 = some (ro, Io, Lo)) : XMet l D dA s0 yX0_compare (ws_ yX0_compare cX0_compare 5 ((some .int))) (194) (9429) [.ref x0, .int x1, .int x2] T N Z I L R (some (.int ro)) T N Z Io Lo R 0 0 :=
  x_start (own := RX0) rfl (by decide) (Nat.le_of_ble_eq_true rfl) (lv := [(0, .ref x0), (1, .int x1), (2, .int x2)]) rfl (fun p e s m below meth c ls X hr hini V hl => wX0_compare_e X hr hf V hl)
set_option maxHeartbeats 400000 in
set_option maxRecDepth 100000 in
theorem zX6_read_rX20_b38 {nf : Nat} {dA : Nat → ClassId} {T : xT} {N : xT} {Z : Nat} {S : Nat} {I : xI} {L : xL} {R : xR}  {x0 : Nat} {z0 : Nat} {ro : (Nat ⊕ Unit)} {To : xT} {No : xT} {Zo : Nat} {So : Nat} {Io : xI} {Ro : xR}  (hf : fX6_read_rX20_b38 nf (sv dA) T N Z S I L R x0 z0 = some (ro, To, No, Zo, So, Io, Ro)) : Z ≤ Zo ∧ S ≤ So := by
  unfold fX6_read_rX20_b38 at hf
  replace hf := tg_s hf; obtain ⟨ht1, hf⟩ := hf
  replace hf := b2s hf; obtain ⟨I2, R3, hk_4, hf⟩ := hf
  replace hf := tg_s hf; obtain ⟨ht5, hf⟩ := hf
  cases hf
  exact ⟨Nat.le_refl _, Nat.le_refl _⟩
set_option maxHeartbeats 400000 in
set_option maxRecDepth 100000 in
theorem wX6_read_rX20_b38 {nf : Nat} {kc ks : Nat} {cells slots : Nat} {p : Program} {l : Launch} {e : Env} {s : State} {m : MethodId} {args : Array Value} {below : List Frame} {meth : Method} {c : Code} {D : va_G} {dA : Nat → ClassId} {s0 : Nat} {T : xT} {N : xT} {Z : Nat} {S : Nat} {I : xI} {L : xL} {R : xR} {H : Heap} {locs : List Loc} {ls : Array Slot}  {x0 : Nat} {z0 : Nat} {ro : (Nat ⊕ Unit)} {To : xT} {No : xT} {Zo : Nat} {So : Nat} {Io : xI} {Ro : xR} (X : Cx D dA s0 p m c cX6_read 1 s args RX6 meth) (hr : meth.sig.returnType = none) (htE : c.exceptionTable.toList = [])   (hf : fX6_read_rX20_b38 nf (sv dA) T N Z S I L R x0 z0 = some (ro, To, No, Zo, So, Io, Ro)) (V : Iv D dA s0 s T N Z I L R H locs) (hl : lv_has ls 1 [(0, .ref x0)]) (hB : cells + (Zo - Z) ≤ kc ∧ slots + (So - S) ≤ ks) : W p l e { frames := 1490, cells := kc, slots := ks, locals := 31916 } s m args below meth c H locs cells slots (vx_MQ below (yQ D dA s0 (rV ro) To No Zo Io L Ro) (yX D dA s0 (rV ro) To No Zo Io L Ro) args s kc ks (fun q => s0 ≤ q)) (F0 m 38 ls [.ref z0]) := by
  have hx := X.1.1
  have hb := X.1.2.1
  unfold fX6_read_rX20_b38 at hf
  refine lv_dup (pc := 38) hx hb dX6_read_38 rfl ?_
  refine lv_aload_n (pc := 39) hx hb dX6_read_39 rfl (lv_at hl 0 rfl) ?_
  replace hf := tg_s hf; obtain ⟨ht1, hf⟩ := hf
  refine x_get (pc := 40) X V okX20 ht1 3 (by decide) q744 (v := .int (I x0 3)) rfl dX6_read_40 ?_
  replace hf := b2s hf; obtain ⟨I2, R3, hk_4, hf⟩ := hf
  refine x_callI0 (pc := 43) (As := [.int (I x0 3)]) (rest := [.ref z0]) X V (mX8_init l D dA s0 hk_4) q864 q865 q138 q866 rfl hsX8_init ⟨Nat.le_of_ble_eq_true rfl, Nat.le_of_ble_eq_true rfl⟩ rfl hl.1 rfl (Nat.le_of_ble_eq_true rfl) dX6_read_43 ⟨by show cells ≤ kc; omega, by show slots ≤ ks; omega⟩ (fun H locs V => W.eq (g2 := F0 m 46 ls [.ref z0]) rfl ?_)
  replace hf := tg_s hf; obtain ⟨ht5, hf⟩ := hf
  refine vx_athrow (pc := 46) hx hb dX6_read_46 ?_
  cases hf
  exact y_out X V htE okX8 ht5 (by omega) (by omega)
set_option maxHeartbeats 400000 in
set_option maxRecDepth 100000 in
theorem zX6_read_rX20_b21 {nf : Nat} {dA : Nat → ClassId} {T : xT} {N : xT} {Z : Nat} {S : Nat} {I : xI} {L : xL} {R : xR} {kk8 : xT → xT → Nat → Nat → xI → xR → Nat → Option ((Nat ⊕ Unit) × xT × xT × Nat × Nat × xI × xR)} {x0 : Nat} {ro : (Nat ⊕ Unit)} {To : xT} {No : xT} {Zo : Nat} {So : Nat} {Io : xI} {Ro : xR} (hm8 : ∀ {T : xT} {N : xT} {Z : Nat} {S : Nat} {I : xI} {R : xR} {x0 : Nat}, kk8 T N Z S I R x0 = some (ro, To, No, Zo, So, Io, Ro) → Z ≤ Zo ∧ S ≤ So) (hf : fX6_read_rX20_b21 nf kk8 (sv dA) T N Z S I L R x0 = some (ro, To, No, Zo, So, Io, Ro)) : Z ≤ Zo ∧ S ≤ So := by
  unfold fX6_read_rX20_b21 at hf
  have hm := hm8 hf
  exact ⟨by omega, by omega⟩
set_option maxHeartbeats 400000 in
set_option maxRecDepth 100000 in
theorem wX6_read_rX20_b21 {nf : Nat} {kc ks : Nat} {cells slots : Nat} {p : Program} {l : Launch} {e : Env} {s : State} {m : MethodId} {args : Array Value} {below : List Frame} {meth : Method} {c : Code} {D : va_G} {dA : Nat → ClassId} {s0 : Nat} {T : xT} {N : xT} {Z : Nat} {S : Nat} {I : xI} {L : xL} {R : xR} {H : Heap} {locs : List Loc} {ls : Array Slot} {kk8 : xT → xT → Nat → Nat → xI → xR → Nat → Option ((Nat ⊕ Unit) × xT × xT × Nat × Nat × xI × xR)} {x0 : Nat} {ro : (Nat ⊕ Unit)} {To : xT} {No : xT} {Zo : Nat} {So : Nat} {Io : xI} {Ro : xR} (X : Cx D dA s0 p m c cX6_read 1 s args RX6 meth) (hr : meth.sig.returnType = none) (htE : c.exceptionTable.toList = []) (hk8 : ∀ {T : xT} {N : xT} {Z : Nat} {S : Nat} {I : xI} {R : xR} {x0 : Nat} {H : Heap} {locs : List Loc} {ls : Array Slot} {cells slots : Nat} , kk8 T N Z S I R x0 = some (ro, To, No, Zo, So, Io, Ro) → Iv D dA s0 s T N Z I L R H locs → lv_has ls 1 [(0, .ref x0)] → cells + (Zo - Z) ≤ kc ∧ slots + (So - S) ≤ ks → W p l e { frames := 1490, cells := kc, slots := ks, locals := 31916 } s m args below meth c H locs cells slots (vx_MQ below (yQ D dA s0 (rV ro) To No Zo Io L Ro) (yX D dA s0 (rV ro) To No Zo Io L Ro) args s kc ks (fun q => s0 ≤ q)) (F0 m 8 ls [])) (hm8 : ∀ {T : xT} {N : xT} {Z : Nat} {S : Nat} {I : xI} {R : xR} {x0 : Nat}, kk8 T N Z S I R x0 = some (ro, To, No, Zo, So, Io, Ro) → Z ≤ Zo ∧ S ≤ So) (hf : fX6_read_rX20_b21 nf kk8 (sv dA) T N Z S I L R x0 = some (ro, To, No, Zo, So, Io, Ro)) (V : Iv D dA s0 s T N Z I L R H locs) (hl : lv_has ls 1 [(0, .ref x0)]) (hB : cells + (Zo - Z) ≤ kc ∧ slots + (So - S) ≤ ks) : W p l e { frames := 1490, cells := kc, slots := ks, locals := 31916 } s m args below meth c H locs cells slots (vx_MQ below (yQ D dA s0 (rV ro) To No Zo Io L Ro) (yX D dA s0 (rV ro) To No Zo Io L Ro) args s kc ks (fun q => s0 ≤ q)) (F0 m 21 ls []) := by
  have hx := X.1.1
  have hb := X.1.2.1
  unfold fX6_read_rX20_b21 at hf
  refine lv_goto (pc := 21) (tgt := 8) hx hb dX6_read_21 (by decide) ?_
  exact hk8 hf V (lv_sub hl [0] rfl) ⟨by omega, by omega⟩
set_option maxHeartbeats 400000 in
set_option maxRecDepth 100000 in
theorem zX6_read_rX20_b8 {nf : Nat} {dA : Nat → ClassId} {L : xL}  {ro : (Nat ⊕ Unit)} {To : xT} {No : xT} {Zo : Nat} {So : Nat} {Io : xI} {Ro : xR}  (k : Nat) : ∀ {T : xT} {N : xT} {Z : Nat} {S : Nat} {I : xI} {R : xR} {x0 : Nat}, fX6_read_rX20_b8 nf (sv dA) L k T N Z S I R x0 = some (ro, To, No, Zo, So, Io, Ro) → Z ≤ Zo ∧ S ≤ So := by
  induction k with
  | zero =>
    intro T N Z S I R x0 hf
    exact absurd (show none = some _ from hf) (fun q => nomatch q)
  | succ k ih =>
    intro T N Z S I R x0 hf
    rw [fX6_read_rX20_b8] at hf
    replace hf := bs hf; obtain ⟨a1, ha1, hf⟩ := hf
    replace hf := tg_s hf; obtain ⟨ht5, hf⟩ := hf
    replace hf := b2s hf; obtain ⟨r2, I3, hk_4, hf⟩ := hf
    rcases (Decidable.em (r2 = (ii 0))) with c6 | c6
    · replace hf := if_t hf c6
      rcases (Decidable.em ((I3 x0 1) ≤ (I3 x0 3))) with c7 | c7
      · replace hf := if_t hf c7
        cases hf
        exact ⟨Nat.le_refl _, Nat.le_refl _⟩
      · replace hf := if_f hf c7
        replace hf := nm_s hf; obtain ⟨T8, hT8, hf⟩ := hf
        replace hf := nm_s hf; obtain ⟨Z9, hZ9, hf⟩ := hf
        replace hf := nm_s hf; obtain ⟨S10, hS10, hf⟩ := hf
        have hm := zX6_read_rX20_b38 hf
        exact ⟨by omega, by omega⟩
    · replace hf := if_f hf c6
      replace hf := b7s hf; obtain ⟨r11, T12, N13, Z14, S15, I16, R17, hk_18, hf⟩ := hf
      have hm_hk_18 := zX20_clause hk_18
      replace hf := xc_s hf; rcases hf with ⟨a19, hr_21, hf⟩ | ⟨v20, hr_21, hf⟩
      · skip
        replace hf := tg_s hf; obtain ⟨ht22, hf⟩ := hf
        cases hf
        exact ⟨by omega, by omega⟩
      · skip
        have hm := zX6_read_rX20_b21 ih hf
        exact ⟨by omega, by omega⟩
set_option maxHeartbeats 400000 in
set_option maxRecDepth 100000 in
theorem wX6_read_rX20_b8 {nf : Nat} {kc ks : Nat} {p : Program} {l : Launch} {e : Env} {s : State} {m : MethodId} {args : Array Value} {below : List Frame} {meth : Method} {c : Code} {D : va_G} {dA : Nat → ClassId} {s0 : Nat} {L : xL}  {ro : (Nat ⊕ Unit)} {To : xT} {No : xT} {Zo : Nat} {So : Nat} {Io : xI} {Ro : xR} (X : Cx D dA s0 p m c cX6_read 1 s args RX6 meth) (hr : meth.sig.returnType = none) (htE : c.exceptionTable.toList = [])   (k : Nat) : ∀ {T : xT} {N : xT} {Z : Nat} {S : Nat} {I : xI} {R : xR} {x0 : Nat} {H : Heap} {locs : List Loc} {ls : Array Slot} {cells slots : Nat} , fX6_read_rX20_b8 nf (sv dA) L k T N Z S I R x0 = some (ro, To, No, Zo, So, Io, Ro) → Iv D dA s0 s T N Z I L R H locs → lv_has ls 1 [(0, .ref x0)] → cells + (Zo - Z) ≤ kc ∧ slots + (So - S) ≤ ks → W p l e { frames := 1490, cells := kc, slots := ks, locals := 31916 } s m args below meth c H locs cells slots (vx_MQ below (yQ D dA s0 (rV ro) To No Zo Io L Ro) (yX D dA s0 (rV ro) To No Zo Io L Ro) args s kc ks (fun q => s0 ≤ q)) (F0 m 8 ls []) := by
  have hx := X.1.1
  have hb := X.1.2.1
  induction k with
  | zero =>
    intro T N Z S I R x0 H locs ls cells slots hf V hl hB
    exact absurd (show none = some _ from hf) (fun q => nomatch q)
  | succ k ih =>
    intro T N Z S I R x0 H locs ls cells slots hf V hl hB
    have ihm : ∀ {T : xT} {N : xT} {Z : Nat} {S : Nat} {I : xI} {R : xR} {x0 : Nat}, fX6_read_rX20_b8 nf (sv dA) L k T N Z S I R x0 = some (ro, To, No, Zo, So, Io, Ro) → Z ≤ Zo ∧ S ≤ So := zX6_read_rX20_b8 k
    rw [fX6_read_rX20_b8] at hf
    refine lv_aload_n (pc := 8) hx hb dX6_read_8 rfl (lv_at hl 0 rfl) ?_
    replace hf := bs hf; obtain ⟨a1, ha1, hf⟩ := hf
    refine x_ldcS (pc := 9) X 42 rfl ha1 dX6_read_9 ?_
    replace hf := tg_s hf; obtain ⟨ht5, hf⟩ := hf
    replace hf := b2s hf; obtain ⟨r2, I3, hk_4, hf⟩ := hf
    refine x_callU (pc := 11) (As := [.ref a1]) (rest := []) X V (mX6_takes_rX20 l D dA s0 hk_4) okX20 ht5 q931 q933 q935 q932 q133 q936 rfl hsX6_takes_rX20 ⟨Nat.le_of_ble_eq_true rfl, Nat.le_of_ble_eq_true rfl⟩ rfl hl.1 rfl (Nat.le_of_ble_eq_true rfl) dX6_read_11 ⟨by show cells ≤ kc; omega, by show slots ≤ ks; omega⟩ (fun H locs V => W.eq (g2 := F0 m 14 ls [.int r2]) rfl ?_)
    refine lv_if_eq (pc := 14) (tgt := 24) hx hb dX6_read_14 (by decide) (fun c6 => ?_) (fun c6 => ?_)
    · replace hf := if_t hf c6
      refine lv_aload_n (pc := 24) hx hb dX6_read_24 rfl (lv_at hl 0 rfl) ?_
      refine x_get (pc := 25) X V okX20 ht5 3 (by decide) q744 (v := .int (I3 x0 3)) rfl dX6_read_25 ?_
      refine lv_aload_n (pc := 28) hx hb dX6_read_28 rfl (lv_at hl 0 rfl) ?_
      refine x_get (pc := 29) X V okX20 ht5 1 (by decide) q742 (v := .int (I3 x0 1)) rfl dX6_read_29 ?_
      refine lv_icmp_ge (pc := 32) (tgt := 47) hx hb dX6_read_32 (by decide) (fun c7 => ?_) (fun c7 => ?_)
      · replace hf := if_t hf c7
        cases hf
        exact y_vret (pc := 47) X V hr (by omega) (by omega) dX6_read_47
      · replace hf := if_f hf c7
        replace hf := nm_s hf; obtain ⟨T8, hT8, hf⟩ := hf
        replace hf := nm_s hf; obtain ⟨Z9, hZ9, hf⟩ := hf
        replace hf := nm_s hf; obtain ⟨S10, hS10, hf⟩ := hf
        have hm := zX6_read_rX20_b38 hf
        refine x_new (pc := 35) X V okX8 hT8 hZ9 q855 q856 q138 (by show _ ≤ kc; omega) (by show _ ≤ ks; omega) dX6_read_35 (fun H V => ?_)
        exact wX6_read_rX20_b38 X hr htE hf V (lv_sub hl [0] rfl) ⟨by omega, by omega⟩
    · replace hf := if_f hf c6
      refine lv_aload_n (pc := 17) hx hb dX6_read_17 rfl (lv_at hl 0 rfl) ?_
      replace hf := b7s hf; obtain ⟨r11, T12, N13, Z14, S15, I16, R17, hk_18, hf⟩ := hf
      have hm_hk_18 := zX20_clause hk_18
      replace hf := xc_s hf; rcases hf with ⟨a19, hr_21, hf⟩ | ⟨v20, hr_21, hf⟩
      · rw [hr_21] at hk_18
        replace hf := tg_s hf; obtain ⟨ht22, hf⟩ := hf
        have hzE : Z14 = Zo := by cases hf; rfl
        have hsE : S15 = So := by cases hf; rfl
        refine y_afterX (y_runA (pc := 18) (As := []) (rest := []) X V (mX20_clause l D dA s0 (kc := Z14 - Z) (ks := S15 - S) (Nat.le_refl _) (Nat.le_refl _) hk_18) okX20 ht5 q788 q790 q1127 q1128 q153 q1129 q789 hu_X6_clause ⟨Nat.le_of_ble_eq_true rfl, Nat.le_of_ble_eq_true rfl⟩ rfl hl.1 rfl (Nat.le_of_ble_eq_true rfl) dX6_read_18 ⟨by show _ ≤ kc; omega, by show _ ≤ ks; omega⟩) V (fun H locs V => ?_)
        cases hf
        exact y_out X V htE okX8 ht22 (by omega) (by omega)
      · rw [hr_21] at hk_18
        have hm := zX6_read_rX20_b21 ihm hf
        refine y_afterR (y_runA (pc := 18) (As := []) (rest := []) X V (mX20_clause l D dA s0 (kc := Z14 - Z) (ks := S15 - S) (Nat.le_refl _) (Nat.le_refl _) hk_18) okX20 ht5 q788 q790 q1127 q1128 q153 q1129 q789 hu_X6_clause ⟨Nat.le_of_ble_eq_true rfl, Nat.le_of_ble_eq_true rfl⟩ rfl hl.1 rfl (Nat.le_of_ble_eq_true rfl) dX6_read_18 ⟨by show _ ≤ kc; omega, by show _ ≤ ks; omega⟩) V (fun H locs V => W.eq (g2 := F0 m 21 ls []) rfl ?_)
        exact wX6_read_rX20_b21 X hr htE ih ihm hf V (lv_sub hl [0] rfl) ⟨by omega, by omega⟩
set_option maxHeartbeats 400000 in
set_option maxRecDepth 100000 in
theorem zX6_read_rX20 {nf : Nat} {dA : Nat → ClassId} {T : xT} {N : xT} {Z : Nat} {S : Nat} {I : xI} {L : xL} {R : xR} {x0 : Nat} {ro : (Nat ⊕ Unit)} {To : xT} {No : xT} {Zo : Nat} {So : Nat} {Io : xI} {Ro : xR} (hf : fX6_read_rX20 nf (sv dA) T N Z S I L R x0 = some (ro, To, No, Zo, So, Io, Ro)) : Z ≤ Zo ∧ S ≤ So := by
  unfold fX6_read_rX20 at hf
  replace hf := tg_s hf; obtain ⟨ht3, hf⟩ := hf
  replace hf := bs hf; obtain ⟨I1, hk_2, hf⟩ := hf
  replace hf := b7s hf; obtain ⟨r4, T5, N6, Z7, S8, I9, R10, hk_11, hf⟩ := hf
  have hm_hk_11 := zX20_clause hk_11
  replace hf := xc_s hf; rcases hf with ⟨a12, hr_14, hf⟩ | ⟨v13, hr_14, hf⟩
  · skip
    replace hf := tg_s hf; obtain ⟨ht15, hf⟩ := hf
    cases hf
    exact ⟨by omega, by omega⟩
  · skip
    have hm := zX6_read_rX20_b8 nf hf
    exact ⟨by omega, by omega⟩
set_option maxHeartbeats 400000 in
set_option maxRecDepth 100000 in
theorem wX6_read_rX20_e {nf : Nat} {kc ks : Nat} {cells slots : Nat} {p : Program} {l : Launch} {e : Env} {s : State} {m : MethodId} {args : Array Value} {below : List Frame} {meth : Method} {c : Code} {D : va_G} {dA : Nat → ClassId} {s0 : Nat} {T : xT} {N : xT} {Z : Nat} {S : Nat} {I : xI} {L : xL} {R : xR} {H : Heap} {locs : List Loc} {ls : Array Slot} {x0 : Nat} {ro : (Nat ⊕ Unit)} {To : xT} {No : xT} {Zo : Nat} {So : Nat} {Io : xI} {Ro : xR} (X : Cx D dA s0 p m c cX6_read 1 s args RX6 meth) (hr : meth.sig.returnType = none) (htE : c.exceptionTable.toList = []) (hf : fX6_read_rX20 nf (sv dA) T N Z S I L R x0 = some (ro, To, No, Zo, So, Io, Ro)) (V : Iv D dA s0 s T N Z I L R H locs) (hl : lv_has ls 1 [(0, .ref x0)]) (hB : cells + (Zo - Z) ≤ kc ∧ slots + (So - S) ≤ ks) : W p l e { frames := 1490, cells := kc, slots := ks, locals := 31916 } s m args below meth c H locs cells slots (vx_MQ below (yQ D dA s0 (rV ro) To No Zo Io L Ro) (yX D dA s0 (rV ro) To No Zo Io L Ro) args s kc ks (fun q => s0 ≤ q)) (F0 m 0 ls []) := by
  have hx := X.1.1
  have hb := X.1.2.1
  unfold fX6_read_rX20 at hf
  refine lv_aload_n (pc := 0) hx hb dX6_read_0 rfl (lv_at hl 0 rfl) ?_
  replace hf := tg_s hf; obtain ⟨ht3, hf⟩ := hf
  replace hf := bs hf; obtain ⟨I1, hk_2, hf⟩ := hf
  refine x_callU (pc := 1) (As := []) (rest := []) X V (mX6_next_rX20 l D dA s0 hk_2) okX20 ht3 q776 q778 q780 q777 q133 q781 rfl hsX6_next_rX20 ⟨Nat.le_of_ble_eq_true rfl, Nat.le_of_ble_eq_true rfl⟩ rfl hl.1 rfl (Nat.le_of_ble_eq_true rfl) dX6_read_1 ⟨by show cells ≤ kc; omega, by show slots ≤ ks; omega⟩ (fun H locs V => W.eq (g2 := F0 m 4 ls []) rfl ?_)
  refine lv_aload_n (pc := 4) hx hb dX6_read_4 rfl (lv_at hl 0 rfl) ?_
  replace hf := b7s hf; obtain ⟨r4, T5, N6, Z7, S8, I9, R10, hk_11, hf⟩ := hf
  have hm_hk_11 := zX20_clause hk_11
  replace hf := xc_s hf; rcases hf with ⟨a12, hr_14, hf⟩ | ⟨v13, hr_14, hf⟩
  · rw [hr_14] at hk_11
    replace hf := tg_s hf; obtain ⟨ht15, hf⟩ := hf
    have hzE : Z7 = Zo := by cases hf; rfl
    have hsE : S8 = So := by cases hf; rfl
    refine y_afterX (y_runA (pc := 5) (As := []) (rest := []) X V (mX20_clause l D dA s0 (kc := Z7 - Z) (ks := S8 - S) (Nat.le_refl _) (Nat.le_refl _) hk_11) okX20 ht3 q788 q790 q1127 q1128 q153 q1129 q789 hu_X6_clause ⟨Nat.le_of_ble_eq_true rfl, Nat.le_of_ble_eq_true rfl⟩ rfl hl.1 rfl (Nat.le_of_ble_eq_true rfl) dX6_read_5 ⟨by show _ ≤ kc; omega, by show _ ≤ ks; omega⟩) V (fun H locs V => ?_)
    cases hf
    exact y_out X V htE okX8 ht15 (by omega) (by omega)
  · rw [hr_14] at hk_11
    have hm := zX6_read_rX20_b8 nf hf
    refine y_afterR (y_runA (pc := 5) (As := []) (rest := []) X V (mX20_clause l D dA s0 (kc := Z7 - Z) (ks := S8 - S) (Nat.le_refl _) (Nat.le_refl _) hk_11) okX20 ht3 q788 q790 q1127 q1128 q153 q1129 q789 hu_X6_clause ⟨Nat.le_of_ble_eq_true rfl, Nat.le_of_ble_eq_true rfl⟩ rfl hl.1 rfl (Nat.le_of_ble_eq_true rfl) dX6_read_5 ⟨by show _ ≤ kc; omega, by show _ ≤ ks; omega⟩) V (fun H locs V => W.eq (g2 := F0 m 8 ls []) rfl ?_)
    exact wX6_read_rX20_b8 X hr htE nf hf V (lv_sub hl [0] rfl) ⟨by omega, by omega⟩
theorem mX6_read_rX20 {nf : Nat} (l : Launch) (D : va_G) (dA : Nat → ClassId) (s0 : Nat) {kc ks : Nat} {T : xT} {N : xT} {Z : Nat} {S : Nat} {I : xI} {L : xL} {R : xR} {x0 : Nat} {ro : (Nat ⊕ Unit)} {To : xT} {No : xT} {Zo : Nat} {So : Nat} {Io : xI} {Ro : xR} (hZ : Zo - Z ≤ kc) (hS : So - S ≤ ks) (hf : fX6_read_rX20 nf (sv dA) T N Z S I L R x0 = some (ro, To, No, Zo, So, Io, Ro)) : YMet l D dA s0 yX6_read (ws_ yX6_read cX6_read 1 (none)) (1490) (31916) [.ref x0] T N Z I L R (rV ro) To No Zo Io L Ro kc ks :=
  y_start (own := RX6) rfl (by decide) (Nat.le_of_ble_eq_true rfl) (lv := [(0, .ref x0)]) rfl (fun p e s m below meth c ls X hr htE V hl => wX6_read_rX20_e X hr htE hf V hl ⟨by omega, by omega⟩)
