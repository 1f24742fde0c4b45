set_option maxHeartbeats 400000 in
set_option maxRecDepth 100000 in
theorem wX5_gone_b68 {nf : Nat} {p : Program} {l : Launch} {e : Env} {s : State} {m : MethodId} {args : Array Value} {below : List Frame} {meth : Method} {c : Code} {D : va_G} {dA : Nat → ClassId} {s0 : Nat} {T : xT} {N : xT} {Z : Nat} {L : xL} {R : xR} {kk29 : xI → Nat → Int32 → Int32 → Int32 → Int32 → Int32 → Option (Int32 × xI)} {ro : Int32} {Io : xI} (X : Cx D dA s0 p m c cX5_gone 8 s args RX5 meth) (hr : meth.sig.returnType = (some .int)) (hk29 : ∀ {I : xI} {x0 : Nat} {x1 : Int32} {x2 : Int32} {x3 : Int32} {x4 : Int32} {x5 : Int32} {H : Heap} {locs : List Loc} {ls : Array Slot} , kk29 I x0 x1 x2 x3 x4 x5 = some (ro, Io) → Iv D dA s0 s T N Z I L R H locs → lv_has ls 8 [(0, .ref x0), (1, .int x1), (2, .int x2), (3, .int x3), (4, .int x4), (5, .int x5)] → W p l e { frames := 1, cells := 0, slots := 0, locals := 25 } s m args below meth c H locs 0 0 (MQ below (xQ D dA s0 (some (.int ro)) T N Z Io L R) args s 0 0 (fun q => s0 ≤ q)) (F0 m 29 ls []))  (k : Nat) : ∀ {I : xI} {x0 : Nat} {x1 : Int32} {x2 : Int32} {x3 : Int32} {x4 : Int32} {x5 : Int32} {x7 : Int32} {H : Heap} {locs : List Loc} {ls : Array Slot} , fX5_gone_b68 nf kk29 T N R k I x0 x1 x2 x3 x4 x5 x7 = some (ro, Io) → Iv D dA s0 s T N Z I L R H locs → lv_has ls 8 [(0, .ref x0), (1, .int x1), (2, .int x2), (3, .int x3), (4, .int x4), (5, .int x5), (7, .int x7)] → W p l e { frames := 1, cells := 0, slots := 0, locals := 25 } s m args below meth c H locs 0 0 (MQ below (xQ D dA s0 (some (.int ro)) T N Z Io L R) args s 0 0 (fun q => s0 ≤ q)) (F0 m 68 ls []) := by
  have hx := X.1.1
  have hb := X.1.2.1
  induction k with
  | zero =>
    intro I x0 x1 x2 x3 x4 x5 x7 H locs ls hf V hl
    exact absurd (show none = some _ from hf) (fun q => nomatch q)
  | succ k ih =>
    intro I x0 x1 x2 x3 x4 x5 x7 H locs ls hf V hl
    rw [fX5_gone_b68] at hf
    refine lv_iload (pc := 68) hx hb dX5_gone_68 (lv_at hl 6 rfl) ?_
    refine lv_bipush (pc := 70) (v := (ii 8)) hx hb dX5_gone_70 (by decide) ?_
    refine lv_icmp_ge (pc := 72) (tgt := 104) hx hb dX5_gone_72 (by decide) (fun c1 => ?_) (fun c1 => ?_)
    · replace hf := if_t hf c1
      replace hf := nm_s hf; obtain ⟨u2, hu2, hf⟩ := hf
      refine lv_iinc (pc := 104) (v := u2) (lv' := [(5, .int u2), (0, .ref x0), (1, .int x1), (2, .int x2), (3, .int x3), (4, .int x4), (7, .int x7)]) hx hb dX5_gone_104 hl (k := 5) rfl (by rw [hu2]; rfl) (by decide) rfl (fun ls hl => ?_)
      refine lv_goto (pc := 107) (tgt := 29) hx hb dX5_gone_107 (by decide) ?_
      exact hk29 hf V (lv_sub hl [1, 2, 3, 4, 5, 0] rfl)
    · replace hf := if_f hf c1
      refine lv_iload (pc := 75) hx hb dX5_gone_75 (lv_at hl 4 rfl) ?_
      refine lv_aload_n (pc := 77) hx hb dX5_gone_77 rfl (lv_at hl 0 rfl) ?_
      replace hf := tg_s hf; obtain ⟨ht3, hf⟩ := hf
      replace hf := bs hf; obtain ⟨a4, ha4, hf⟩ := hf
      refine x_get (pc := 78) X V okX5 ht3 43 (by decide) q1564 (v := va_rf (R x0 43)) rfl dX5_gone_78 ?_
      refine x_topr ha4 ?_
      refine lv_iload (pc := 81) hx hb dX5_gone_81 (lv_at hl 6 rfl) ?_
      replace hf := rA_s hf; obtain ⟨j5, hjj5, htj5, hij5, hf⟩ := hf
      refine x_iald (pc := 83) X V htj5 hij5 hjj5 dX5_gone_83 ?_
      refine lv_if_le (pc := 84) (tgt := 94) hx hb dX5_gone_84 (by decide) (fun c6 => ?_) (fun c6 => ?_)
      · replace hf := if_t hf c6
        refine lv_iconst (pc := 94) (v := (ii 0)) hx hb dX5_gone_94 (by decide) ?_
        refine lv_ior (pc := 95) hx hb dX5_gone_95 ?_
        replace hf := nm_s hf; obtain ⟨u7, hu7, hf⟩ := hf
        refine x_topi hu7 ?_
        refine lv_istore (pc := 96) (lv' := [(4, .int u7), (0, .ref x0), (1, .int x1), (2, .int x2), (3, .int x3), (5, .int x5), (7, .int x7)]) hx hb dX5_gone_96 hl (by decide) rfl (fun ls hl => ?_)
        replace hf := nm_s hf; obtain ⟨u8, hu8, hf⟩ := hf
        refine lv_iinc (pc := 98) (v := u8) (lv' := [(7, .int u8), (4, .int u7), (0, .ref x0), (1, .int x1), (2, .int x2), (3, .int x3), (5, .int x5)]) hx hb dX5_gone_98 hl (k := 6) rfl (by rw [hu8]; rfl) (by decide) rfl (fun ls hl => ?_)
        refine lv_goto (pc := 101) (tgt := 68) hx hb dX5_gone_101 (by decide) ?_
        exact ih hf V (lv_sub hl [2, 3, 4, 5, 1, 6, 0] rfl)
      · replace hf := if_f hf c6
        refine lv_iconst (pc := 87) (v := (ii 1)) hx hb dX5_gone_87 (by decide) ?_
        refine lv_iload (pc := 88) hx hb dX5_gone_88 (lv_at hl 6 rfl) ?_
        refine lv_ishl (pc := 90) hx hb dX5_gone_90 ?_
        refine lv_goto (pc := 91) (tgt := 95) hx hb dX5_gone_91 (by decide) ?_
        refine lv_ior (pc := 95) hx hb dX5_gone_95 ?_
        replace hf := nm_s hf; obtain ⟨u9, hu9, hf⟩ := hf
        refine x_topi hu9 ?_
        refine lv_istore (pc := 96) (lv' := [(4, .int u9), (0, .ref x0), (1, .int x1), (2, .int x2), (3, .int x3), (5, .int x5), (7, .int x7)]) hx hb dX5_gone_96 hl (by decide) rfl (fun ls hl => ?_)
        replace hf := nm_s hf; obtain ⟨u10, hu10, hf⟩ := hf
        refine lv_iinc (pc := 98) (v := u10) (lv' := [(7, .int u10), (4, .int u9), (0, .ref x0), (1, .int x1), (2, .int x2), (3, .int x3), (5, .int x5)]) hx hb dX5_gone_98 hl (k := 6) rfl (by rw [hu10]; rfl) (by decide) rfl (fun ls hl => ?_)
        refine lv_goto (pc := 101) (tgt := 68) hx hb dX5_gone_101 (by decide) ?_
        exact ih hf V (lv_sub hl [2, 3, 4, 5, 1, 6, 0] rfl)
set_option maxHeartbeats 400000 in
set_option maxRecDepth 100000 in
theorem wX5_gone_b29 {nf : Nat} {p : Program} {l : Launch} {e : Env} {s : State} {m : MethodId} {args : Array Value} {below : List Frame} {meth : Method} {c : Code} {D : va_G} {dA : Nat → ClassId} {s0 : Nat} {T : xT} {N : xT} {Z : Nat} {L : xL} {R : xR}  {ro : Int32} {Io : xI} (X : Cx D dA s0 p m c cX5_gone 8 s args RX5 meth) (hr : meth.sig.returnType = (some .int))   (k : Nat) : ∀ {I : xI} {x0 : Nat} {x1 : Int32} {x2 : Int32} {x3 : Int32} {x4 : Int32} {x5 : Int32} {H : Heap} {locs : List Loc} {ls : Array Slot} , fX5_gone_b29 nf T N R k I x0 x1 x2 x3 x4 x5 = some (ro, Io) → Iv D dA s0 s T N Z I L R H locs → lv_has ls 8 [(0, .ref x0), (1, .int x1), (2, .int x2), (3, .int x3), (4, .int x4), (5, .int x5)] → W p l e { frames := 1, cells := 0, slots := 0, locals := 25 } s m args below meth c H locs 0 0 (MQ below (xQ D dA s0 (some (.int ro)) T N Z Io L R) args s 0 0 (fun q => s0 ≤ q)) (F0 m 29 ls []) := by
  have hx := X.1.1
  have hb := X.1.2.1
  induction k with
  | zero =>
    intro I x0 x1 x2 x3 x4 x5 H locs ls hf V hl
    exact absurd (show none = some _ from hf) (fun q => nomatch q)
  | succ k ih =>
    intro I x0 x1 x2 x3 x4 x5 H locs ls hf V hl
    rw [fX5_gone_b29] at hf
    refine lv_iload (pc := 29) hx hb dX5_gone_29 (lv_at hl 5 rfl) ?_
    refine lv_bipush (pc := 31) (v := (ii 8)) hx hb dX5_gone_31 (by decide) ?_
    refine lv_icmp_ge (pc := 33) (tgt := 110) hx hb dX5_gone_33 (by decide) (fun c1 => ?_) (fun c1 => ?_)
    · replace hf := if_t hf c1
      refine lv_iload_n (pc := 110) hx hb dX5_gone_110 rfl (lv_at hl 1 rfl) ?_
      refine lv_if_ne (pc := 111) (tgt := 118) hx hb dX5_gone_111 (by decide) (fun c2 => ?_) (fun c2 => ?_)
      · replace hf := if_f hf c2
        refine lv_iload_n (pc := 118) hx hb dX5_gone_118 rfl (lv_at hl 1 rfl) ?_
        refine lv_iconst (pc := 119) (v := (ii 1)) hx hb dX5_gone_119 (by decide) ?_
        refine lv_icmp_ne (pc := 120) (tgt := 127) hx hb dX5_gone_120 (by decide) (fun c3 => ?_) (fun c3 => ?_)
        · replace hf := if_f hf c3
          refine lv_iload (pc := 127) hx hb dX5_gone_127 (lv_at hl 4 rfl) ?_
          cases hf
          exact x_iret (pc := 129) X V hr dX5_gone_129
        · replace hf := if_t hf c3
          refine lv_iload_n (pc := 123) hx hb dX5_gone_123 rfl (lv_at hl 3 rfl) ?_
          refine lv_goto (pc := 124) (tgt := 129) hx hb dX5_gone_124 (by decide) ?_
          cases hf
          exact x_iret (pc := 129) X V hr dX5_gone_129
      · replace hf := if_t hf c2
        refine lv_iload_n (pc := 114) hx hb dX5_gone_114 rfl (lv_at hl 2 rfl) ?_
        refine lv_goto (pc := 115) (tgt := 129) hx hb dX5_gone_115 (by decide) ?_
        cases hf
        exact x_iret (pc := 129) X V hr dX5_gone_129
    · replace hf := if_f hf c1
      refine lv_aload_n (pc := 36) hx hb dX5_gone_36 rfl (lv_at hl 0 rfl) ?_
      refine lv_iload (pc := 37) hx hb dX5_gone_37 (lv_at hl 5 rfl) ?_
      replace hf := tg_s hf; obtain ⟨ht7, hf⟩ := hf
      replace hf := b2s hf; obtain ⟨r4, I5, hk_6, hf⟩ := hf
      refine x_callV0 (pc := 39) (As := [.int x5]) (rest := []) X V (mX5_goneFrom l D dA s0 hk_6) okX5 ht7 q2092 q2094 qs102 q129 q2095 ⟨rfl, hsX5_goneFrom⟩ ⟨Nat.le_of_ble_eq_true rfl, Nat.le_of_ble_eq_true rfl⟩ rfl hl.1 rfl (Nat.le_of_ble_eq_true rfl) dX5_gone_39 ⟨Nat.zero_le _, Nat.zero_le _⟩ (fun H locs V => W.eq (g2 := F0 m 42 ls [.int r4]) rfl ?_)
      refine lv_istore (pc := 42) (lv' := [(6, .int r4), (0, .ref x0), (1, .int x1), (2, .int x2), (3, .int x3), (4, .int x4), (5, .int x5)]) hx hb dX5_gone_42 hl (by decide) rfl (fun ls hl => ?_)
      refine lv_iload_n (pc := 44) hx hb dX5_gone_44 rfl (lv_at hl 3 rfl) ?_
      refine lv_iload (pc := 45) hx hb dX5_gone_45 (lv_at hl 0 rfl) ?_
      refine lv_iadd (pc := 47) hx hb dX5_gone_47 ?_
      replace hf := nm_s hf; obtain ⟨u8, hu8, hf⟩ := hf
      refine x_topi hu8 ?_
      refine lv_istore_n (pc := 48) (lv' := [(2, .int u8), (6, .int r4), (0, .ref x0), (1, .int x1), (3, .int x3), (4, .int x4), (5, .int x5)]) hx hb dX5_gone_48 rfl hl (by decide) rfl (fun ls hl => ?_)
      refine lv_iload_n (pc := 49) hx hb dX5_gone_49 rfl (lv_at hl 4 rfl) ?_
      refine lv_iload (pc := 50) hx hb dX5_gone_50 (lv_at hl 1 rfl) ?_
      refine lv_if_le (pc := 52) (tgt := 62) hx hb dX5_gone_52 (by decide) (fun c9 => ?_) (fun c9 => ?_)
      · replace hf := if_t hf c9
        refine lv_iconst (pc := 62) (v := (ii 0)) hx hb dX5_gone_62 (by decide) ?_
        refine lv_ior (pc := 63) hx hb dX5_gone_63 ?_
        replace hf := nm_s hf; obtain ⟨u10, hu10, hf⟩ := hf
        refine x_topi hu10 ?_
        refine lv_istore_n (pc := 64) (lv' := [(3, .int u10), (2, .int u8), (6, .int r4), (0, .ref x0), (1, .int x1), (4, .int x4), (5, .int x5)]) hx hb dX5_gone_64 rfl hl (by decide) rfl (fun ls hl => ?_)
        refine lv_iconst (pc := 65) (v := (ii 0)) hx hb dX5_gone_65 (by decide) ?_
        refine lv_istore (pc := 66) (lv' := [(7, .int (ii 0)), (3, .int u10), (2, .int u8), (6, .int r4), (0, .ref x0), (1, .int x1), (4, .int x4), (5, .int x5)]) hx hb dX5_gone_66 hl (by decide) rfl (fun ls hl => ?_)
        exact wX5_gone_b68 X hr ih nf hf V (lv_sub hl [4, 5, 2, 1, 6, 7, 0] rfl)
      · replace hf := if_f hf c9
        refine lv_iconst (pc := 55) (v := (ii 1)) hx hb dX5_gone_55 (by decide) ?_
        refine lv_iload (pc := 56) hx hb dX5_gone_56 (lv_at hl 6 rfl) ?_
        refine lv_ishl (pc := 58) hx hb dX5_gone_58 ?_
        refine lv_goto (pc := 59) (tgt := 63) hx hb dX5_gone_59 (by decide) ?_
        refine lv_ior (pc := 63) hx hb dX5_gone_63 ?_
        replace hf := nm_s hf; obtain ⟨u11, hu11, hf⟩ := hf
        refine x_topi hu11 ?_
        refine lv_istore_n (pc := 64) (lv' := [(3, .int u11), (2, .int u8), (6, .int r4), (0, .ref x0), (1, .int x1), (4, .int x4), (5, .int x5)]) hx hb dX5_gone_64 rfl hl (by decide) rfl (fun ls hl => ?_)
        refine lv_iconst (pc := 65) (v := (ii 0)) hx hb dX5_gone_65 (by decide) ?_
        refine lv_istore (pc := 66) (lv' := [(7, .int (ii 0)), (3, .int u11), (2, .int u8), (6, .int r4), (0, .ref x0), (1, .int x1), (4, .int x4), (5, .int x5)]) hx hb dX5_gone_66 hl (by decide) rfl (fun ls hl => ?_)
        exact wX5_gone_b68 X hr ih nf hf V (lv_sub hl [4, 5, 2, 1, 6, 7, 0] rfl)
set_option maxHeartbeats 400000 in
set_option maxRecDepth 100000 in
theorem wX5_gone_e {nf : Nat} {p : Program} {l : Launch} {e : Env} {s : State} {m : MethodId} {args : Array Value} {below : List Frame} {meth : Method} {c : Code} {D : va_G} {dA : Nat → ClassId} {s0 : Nat} {T : xT} {N : xT} {Z : Nat} {I : xI} {L : xL} {R : xR} {H : Heap} {locs : List Loc} {ls : Array Slot} {x0 : Nat} {x1 : Int32} {ro : Int32} {Io : xI} (X : Cx D dA s0 p m c cX5_gone 8 s args RX5 meth) (hr : meth.sig.returnType = (some .int)) (hf : fX5_gone nf T N I R x0 x1 = some (ro, Io)) (V : Iv D dA s0 s T N Z I L R H locs) (hl : lv_has ls 8 [(0, .ref x0), (1, .int x1)]) : W p l e { frames := 1, cells := 0, slots := 0, locals := 25 } s m args below meth c H locs 0 0 (MQ below (xQ D dA s0 (some (.int ro)) T N Z Io L R) args s 0 0 (fun q => s0 ≤ q)) (F0 m 0 ls []) := by
  have hx := X.1.1
  have hb := X.1.2.1
  unfold fX5_gone at hf
  refine lv_aload_n (pc := 0) hx hb dX5_gone_0 rfl (lv_at hl 0 rfl) ?_
  refine lv_iconst (pc := 1) (v := (ii 0)) hx hb dX5_gone_1 (by decide) ?_
  replace hf := tg_s hf; obtain ⟨ht1, hf⟩ := hf
  replace hf := nm_s hf; obtain ⟨I2, hI2, hf⟩ := hf
  refine x_puti (pc := 2) X V okX5 (by decide) ht1 0 (by decide) q1521 (Or.inl rfl) hI2 (fun _ _ _ => rfl) rfl rfl dX5_gone_2 (fun H locs V => ?_)
  refine lv_iload_n (pc := 5) hx hb dX5_gone_5 rfl (lv_at hl 1 rfl) ?_
  refine lv_i2l (pc := 6) hx hb dX5_gone_6 rfl ?_
  refine lv_lconst (pc := 7) (v := (jj 0)) hx hb dX5_gone_7 (by decide) ?_
  refine lv_ldc2 (pc := 8) (v := (jj 2)) hx hb X.1.2.2.2.1 (X.1.2.2.2.2 _ q2091) dX5_gone_8 ?_
  replace hf := bs hf; obtain ⟨r3, hk_4, hf⟩ := hf
  refine x_callS0 (pc := 11) (As := [.long ((x1).toInt64), .long (jj 0), .long (jj 2)]) (rest := []) X V (mX5_in l D dA s0 hk_4) q1713 q1714 q129 q1715 hsX5_in ⟨Nat.le_of_ble_eq_true rfl, Nat.le_of_ble_eq_true rfl⟩ rfl hl.1 rfl (Nat.le_of_ble_eq_true rfl) dX5_gone_11 ⟨Nat.zero_le _, Nat.zero_le _⟩ (fun H locs V => W.eq (g2 := F0 m 14 ls [.int r3]) rfl ?_)
  refine lv_if_ne (pc := 14) (tgt := 19) hx hb dX5_gone_14 (by decide) (fun c5 => ?_) (fun c5 => ?_)
  · replace hf := if_f hf c5
    refine lv_iconst (pc := 19) (v := (ii 0)) hx hb dX5_gone_19 (by decide) ?_
    refine lv_istore_n (pc := 20) (lv' := [(2, .int (ii 0)), (0, .ref x0), (1, .int x1)]) hx hb dX5_gone_20 rfl hl (by decide) rfl (fun ls hl => ?_)
    refine lv_iconst (pc := 21) (v := (ii 0)) hx hb dX5_gone_21 (by decide) ?_
    refine lv_istore_n (pc := 22) (lv' := [(3, .int (ii 0)), (2, .int (ii 0)), (0, .ref x0), (1, .int x1)]) hx hb dX5_gone_22 rfl hl (by decide) rfl (fun ls hl => ?_)
    refine lv_iconst (pc := 23) (v := (ii 0)) hx hb dX5_gone_23 (by decide) ?_
    refine lv_istore (pc := 24) (lv' := [(4, .int (ii 0)), (3, .int (ii 0)), (2, .int (ii 0)), (0, .ref x0), (1, .int x1)]) hx hb dX5_gone_24 hl (by decide) rfl (fun ls hl => ?_)
    refine lv_iconst (pc := 26) (v := (ii 0)) hx hb dX5_gone_26 (by decide) ?_
    refine lv_istore (pc := 27) (lv' := [(5, .int (ii 0)), (4, .int (ii 0)), (3, .int (ii 0)), (2, .int (ii 0)), (0, .ref x0), (1, .int x1)]) hx hb dX5_gone_27 hl (by decide) rfl (fun ls hl => ?_)
    exact wX5_gone_b29 X hr nf hf V (lv_sub hl [4, 5, 3, 2, 1, 0] rfl)
  · replace hf := if_t hf c5
    refine lv_iconst (pc := 17) (v := (-1 : Int32)) hx hb dX5_gone_17 (by decide) ?_
    cases hf
    exact x_iret (pc := 18) X V hr dX5_gone_18
theorem mX5_gone {nf : Nat} (l : Launch) (D : va_G) (dA : Nat → ClassId) (s0 : Nat) {T : xT} {N : xT} {Z : Nat} {I : xI} {L : xL} {R : xR} {x0 : Nat} {x1 : Int32} {ro : Int32} {Io : xI} (hf : fX5_gone nf T N I R x0 x1 = some (ro, Io)) : XMet l D dA s0 yX5_gone (ws_ yX5_gone cX5_gone 8 ((some .int))) (1) (25) [.ref x0, .int x1] T N Z I L R (some (.int ro)) T N Z Io L R 0 0 :=
  x_start (own := RX5) rfl (by decide) (Nat.le_of_ble_eq_true rfl) (lv := [(0, .ref x0), (1, .int x1)]) rfl (fun p e s m below meth c ls X hr hini V hl => wX5_gone_e X hr hf V hl)
set_option maxHeartbeats 400000 in
set_option maxRecDepth 100000 in
theorem wX5_named_b16 {nf : Nat} {p : Program} {l : Launch} {e : Env} {s : State} {m : MethodId} {args : Array Value} {below : List Frame} {meth : Method} {c : Code} {D : va_G} {dA : Nat → ClassId} {s0 : Nat} {T : xT} {N : xT} {Z : Nat} {L : xL} {R : xR}  {ro : Int32} {Io : xI} (X : Cx D dA s0 p m c cX5_named 4 s args RX5 meth) (hr : meth.sig.returnType = (some .int))   (k : Nat) : ∀ {I : xI} {x0 : Nat} {x1 : Int32} {x2 : Int32} {x3 : Int32} {H : Heap} {locs : List Loc} {ls : Array Slot} , fX5_named_b16 nf T N R k I x0 x1 x2 x3 = some (ro, Io) → Iv D dA s0 s T N Z I L R H locs → lv_has ls 4 [(0, .ref x0), (1, .int x1), (2, .int x2), (3, .int x3)] → W p l e { frames := 1, cells := 0, slots := 0, locals := 25 } s m args below meth c H locs 0 0 (MQ below (xQ D dA s0 (some (.int ro)) T N Z Io L R) args s 0 0 (fun q => s0 ≤ q)) (F0 m 16 ls []) := by
  have hx := X.1.1
  have hb := X.1.2.1
  induction k with
  | zero =>
    intro I x0 x1 x2 x3 H locs ls hf V hl
    exact absurd (show none = some _ from hf) (fun q => nomatch q)
  | succ k ih =>
    intro I x0 x1 x2 x3 H locs ls hf V hl
    rw [fX5_named_b16] at hf
    refine lv_iload_n (pc := 16) hx hb dX5_named_16 rfl (lv_at hl 3 rfl) ?_
    refine lv_if_lt (pc := 17) (tgt := 57) hx hb dX5_named_17 (by decide) (fun c1 => ?_) (fun c1 => ?_)
    · replace hf := if_t hf c1
      refine lv_iload_n (pc := 57) hx hb dX5_named_57 rfl (lv_at hl 2 rfl) ?_
      cases hf
      exact x_iret (pc := 58) X V hr dX5_named_58
    · replace hf := if_f hf c1
      refine lv_iload_n (pc := 20) hx hb dX5_named_20 rfl (lv_at hl 1 rfl) ?_
      refine lv_i2l (pc := 21) hx hb dX5_named_21 rfl ?_
      refine lv_lconst (pc := 22) (v := (jj 0)) hx hb dX5_named_22 (by decide) ?_
      refine lv_ldc2 (pc := 23) (v := (jj 19)) hx hb X.1.2.2.2.1 (X.1.2.2.2.2 _ q2082) dX5_named_23 ?_
      replace hf := bs hf; obtain ⟨r2, hk_3, hf⟩ := hf
      refine x_callS0 (pc := 26) (As := [.long ((x1).toInt64), .long (jj 0), .long (jj 19)]) (rest := []) X V (mX5_in l D dA s0 hk_3) q1713 q1714 q129 q1715 hsX5_in ⟨Nat.le_of_ble_eq_true rfl, Nat.le_of_ble_eq_true rfl⟩ rfl hl.1 rfl (Nat.le_of_ble_eq_true rfl) dX5_named_26 ⟨Nat.zero_le _, Nat.zero_le _⟩ (fun H locs V => W.eq (g2 := F0 m 29 ls [.int r2]) rfl ?_)
      refine lv_if_eq (pc := 29) (tgt := 49) hx hb dX5_named_29 (by decide) (fun c4 => ?_) (fun c4 => ?_)
      · replace hf := if_t hf c4
        refine lv_iload_n (pc := 49) hx hb dX5_named_49 rfl (lv_at hl 2 rfl) ?_
        refine lv_istore_n (pc := 50) (lv' := [(2, .int x2), (0, .ref x0), (1, .int x1), (3, .int x3)]) hx hb dX5_named_50 rfl hl (by decide) rfl (fun ls hl => ?_)
        replace hf := nm_s hf; obtain ⟨u5, hu5, hf⟩ := hf
        refine lv_iinc (pc := 51) (v := u5) (lv' := [(3, .int u5), (2, .int x2), (0, .ref x0), (1, .int x1)]) hx hb dX5_named_51 hl (k := 3) rfl (by rw [hu5]; rfl) (by decide) rfl (fun ls hl => ?_)
        refine lv_goto (pc := 54) (tgt := 16) hx hb dX5_named_54 (by decide) ?_
        exact ih hf V (lv_sub hl [2, 3, 1, 0] rfl)
      · replace hf := if_f hf c4
        refine lv_aload_n (pc := 32) hx hb dX5_named_32 rfl (lv_at hl 0 rfl) ?_
        replace hf := tg_s hf; obtain ⟨ht6, hf⟩ := hf
        replace hf := bs hf; obtain ⟨a7, ha7, hf⟩ := hf
        refine x_get (pc := 33) X V okX5 ht6 3 (by decide) q1524 (v := va_rf (R x0 3)) rfl dX5_named_33 ?_
        refine x_topr ha7 ?_
        refine lv_bipush (pc := 36) (v := (ii 8)) hx hb dX5_named_36 (by decide) ?_
        refine lv_iload_n (pc := 38) hx hb dX5_named_38 rfl (lv_at hl 3 rfl) ?_
        refine lv_iadd (pc := 39) hx hb dX5_named_39 ?_
        replace hf := rA_s hf; obtain ⟨j8, hjj8, htj8, hij8, hf⟩ := hf
        refine x_iald (pc := 40) X V htj8 hij8 hjj8 dX5_named_40 ?_
        refine lv_iload_n (pc := 41) hx hb dX5_named_41 rfl (lv_at hl 1 rfl) ?_
        refine lv_icmp_ne (pc := 42) (tgt := 49) hx hb dX5_named_42 (by decide) (fun c9 => ?_) (fun c9 => ?_)
        · replace hf := if_f hf c9
          refine lv_iload_n (pc := 49) hx hb dX5_named_49 rfl (lv_at hl 2 rfl) ?_
          refine lv_istore_n (pc := 50) (lv' := [(2, .int x2), (0, .ref x0), (1, .int x1), (3, .int x3)]) hx hb dX5_named_50 rfl hl (by decide) rfl (fun ls hl => ?_)
          replace hf := nm_s hf; obtain ⟨u10, hu10, hf⟩ := hf
          refine lv_iinc (pc := 51) (v := u10) (lv' := [(3, .int u10), (2, .int x2), (0, .ref x0), (1, .int x1)]) hx hb dX5_named_51 hl (k := 3) rfl (by rw [hu10]; rfl) (by decide) rfl (fun ls hl => ?_)
          refine lv_goto (pc := 54) (tgt := 16) hx hb dX5_named_54 (by decide) ?_
          exact ih hf V (lv_sub hl [2, 3, 1, 0] rfl)
        · replace hf := if_t hf c9
          refine lv_iload_n (pc := 45) hx hb dX5_named_45 rfl (lv_at hl 3 rfl) ?_
          refine lv_goto (pc := 46) (tgt := 50) hx hb dX5_named_46 (by decide) ?_
          refine lv_istore_n (pc := 50) (lv' := [(2, .int x3), (0, .ref x0), (1, .int x1), (3, .int x3)]) hx hb dX5_named_50 rfl hl (by decide) rfl (fun ls hl => ?_)
          replace hf := nm_s hf; obtain ⟨u11, hu11, hf⟩ := hf
          refine lv_iinc (pc := 51) (v := u11) (lv' := [(3, .int u11), (2, .int x3), (0, .ref x0), (1, .int x1)]) hx hb dX5_named_51 hl (k := 3) rfl (by rw [hu11]; rfl) (by decide) rfl (fun ls hl => ?_)
          refine lv_goto (pc := 54) (tgt := 16) hx hb dX5_named_54 (by decide) ?_
          exact ih hf V (lv_sub hl [2, 3, 1, 0] rfl)
set_option maxHeartbeats 400000 in
set_option maxRecDepth 100000 in
theorem wX5_named_e {nf : Nat} {p : Program} {l : Launch} {e : Env} {s : State} {m : MethodId} {args : Array Value} {below : List Frame} {meth : Method} {c : Code} {D : va_G} {dA : Nat → ClassId} {s0 : Nat} {T : xT} {N : xT} {Z : Nat} {I : xI} {L : xL} {R : xR} {H : Heap} {locs : List Loc} {ls : Array Slot} {x0 : Nat} {x1 : Int32} {ro : Int32} {Io : xI} (X : Cx D dA s0 p m c cX5_named 4 s args RX5 meth) (hr : meth.sig.returnType = (some .int)) (hf : fX5_named nf T N I R x0 x1 = some (ro, Io)) (V : Iv D dA s0 s T N Z I L R H locs) (hl : lv_has ls 4 [(0, .ref x0), (1, .int x1)]) : W p l e { frames := 1, cells := 0, slots := 0, locals := 25 } s m args below meth c H locs 0 0 (MQ below (xQ D dA s0 (some (.int ro)) T N Z Io L R) args s 0 0 (fun q => s0 ≤ q)) (F0 m 0 ls []) := by
  have hx := X.1.1
  have hb := X.1.2.1
  unfold fX5_named at hf
  refine lv_aload_n (pc := 0) hx hb dX5_named_0 rfl (lv_at hl 0 rfl) ?_
  refine lv_iconst (pc := 1) (v := (ii 0)) hx hb dX5_named_1 (by decide) ?_
  replace hf := tg_s hf; obtain ⟨ht1, hf⟩ := hf
  replace hf := nm_s hf; obtain ⟨I2, hI2, hf⟩ := hf
  refine x_puti (pc := 2) X V okX5 (by decide) ht1 0 (by decide) q1521 (Or.inl rfl) hI2 (fun _ _ _ => rfl) rfl rfl dX5_named_2 (fun H locs V => ?_)
  refine lv_iconst (pc := 5) (v := (-1 : Int32)) hx hb dX5_named_5 (by decide) ?_
  refine lv_istore_n (pc := 6) (lv' := [(2, .int (-1 : Int32)), (0, .ref x0), (1, .int x1)]) hx hb dX5_named_6 rfl hl (by decide) rfl (fun ls hl => ?_)
  refine lv_aload_n (pc := 7) hx hb dX5_named_7 rfl (lv_at hl 1 rfl) ?_
  replace hf := bs hf; obtain ⟨a3, ha3, hf⟩ := hf
  refine x_get (pc := 8) X V okX5 ht1 3 (by decide) q1524 (v := va_rf (R x0 3)) rfl dX5_named_8 ?_
  refine x_topr ha3 ?_
  refine lv_iconst (pc := 11) (v := (ii 0)) hx hb dX5_named_11 (by decide) ?_
  replace hf := rA_s hf; obtain ⟨j4, hjj4, htj4, hij4, hf⟩ := hf
  refine x_iald (pc := 12) X V htj4 hij4 hjj4 dX5_named_12 ?_
  refine lv_iconst (pc := 13) (v := (ii 1)) hx hb dX5_named_13 (by decide) ?_
  refine lv_isub (pc := 14) hx hb dX5_named_14 ?_
  replace hf := nm_s hf; obtain ⟨u5, hu5, hf⟩ := hf
  refine x_topi hu5 ?_
  refine lv_istore_n (pc := 15) (lv' := [(3, .int u5), (2, .int (-1 : Int32)), (0, .ref x0), (1, .int x1)]) hx hb dX5_named_15 rfl hl (by decide) rfl (fun ls hl => ?_)
  exact wX5_named_b16 X hr nf hf V (lv_sub hl [2, 3, 1, 0] rfl)
theorem mX5_named {nf : Nat} (l : Launch) (D : va_G) (dA : Nat → ClassId) (s0 : Nat) {T : xT} {N : xT} {Z : Nat} {I : xI} {L : xL} {R : xR} {x0 : Nat} {x1 : Int32} {ro : Int32} {Io : xI} (hf : fX5_named nf T N I R x0 x1 = some (ro, Io)) : XMet l D dA s0 yX5_named (ws_ yX5_named cX5_named 4 ((some .int))) (1) (25) [.ref x0, .int x1] T N Z I L R (some (.int ro)) T N Z Io L R 0 0 :=
  x_start (own := RX5) rfl (by decide) (Nat.le_of_ble_eq_true rfl) (lv := [(0, .ref x0), (1, .int x1)]) rfl (fun p e s m below meth c ls X hr hini V hl => wX5_named_e X hr hf V hl)
set_option maxHeartbeats 400000 in
set_option maxRecDepth 100000 in
theorem wX5_nearEnd_e {p : Program} {l : Launch} {e : Env} {s : State} {m : MethodId} {args : Array Value} {below : List Frame} {meth : Method} {c : Code} {D : va_G} {dA : Nat → ClassId} {s0 : Nat} {T : xT} {N : xT} {Z : Nat} {I : xI} {L : xL} {R : xR} {H : Heap} {locs : List Loc} {ls : Array Slot} {x0 : Nat} {x1 : Int32} {x2 : Int32} {ro : Int32} (X : Cx D dA s0 p m c cX5_nearEnd 6 s args RX5 meth) (hr : meth.sig.returnType = (some .int)) (hf : fX5_nearEnd T N I R x0 x1 x2 = some ro) (V : Iv D dA s0 s T N Z I L R H locs) (hl : lv_has ls 6 [(0, .ref x0), (1, .int x1), (2, .int x2)]) : W p l e { frames := 1, cells := 0, slots := 0, locals := 22 } s m args below meth c H locs 0 0 (MQ below (xQ D dA s0 (some (.int ro)) T N Z I L R) args s 0 0 (fun q => s0 ≤ q)) (F0 m 0 ls []) := by
  have hx := X.1.1
  have hb := X.1.2.1
  unfold fX5_nearEnd at hf
  refine lv_aload_n (pc := 0) hx hb dX5_nearEnd_0 rfl (lv_at hl 0 rfl) ?_
  replace hf := tg_s hf; obtain ⟨ht1, hf⟩ := hf
  replace hf := bs hf; obtain ⟨a2, ha2, hf⟩ := hf
  refine x_get (pc := 1) X V okX5 ht1 3 (by decide) q1524 (v := va_rf (R x0 3)) rfl dX5_nearEnd_1 ?_
  refine x_topr ha2 ?_
  refine lv_bipush (pc := 4) (v := (ii 26)) hx hb dX5_nearEnd_4 (by decide) ?_
  refine lv_iload_n (pc := 6) hx hb dX5_nearEnd_6 rfl (lv_at hl 2 rfl) ?_
  refine lv_iadd (pc := 7) hx hb dX5_nearEnd_7 ?_
  replace hf := rA_s hf; obtain ⟨j3, hjj3, htj3, hij3, hf⟩ := hf
  refine x_iald (pc := 8) X V htj3 hij3 hjj3 dX5_nearEnd_8 ?_
  replace hf := nm_s hf; obtain ⟨u4, hu4, hf⟩ := hf
  refine x_topi hu4 ?_
  refine lv_istore_n (pc := 9) (lv' := [(3, .int u4), (0, .ref x0), (1, .int x1), (2, .int x2)]) hx hb dX5_nearEnd_9 rfl hl (by decide) rfl (fun ls hl => ?_)
  refine lv_aload_n (pc := 10) hx hb dX5_nearEnd_10 rfl (lv_at hl 1 rfl) ?_
  refine x_get (pc := 11) X V okX5 ht1 3 (by decide) q1524 (v := va_rf (R x0 3)) rfl dX5_nearEnd_11 ?_
  refine x_topr ha2 ?_
  refine lv_bipush (pc := 14) (v := (ii 36)) hx hb dX5_nearEnd_14 (by decide) ?_
  refine lv_iload_n (pc := 16) hx hb dX5_nearEnd_16 rfl (lv_at hl 3 rfl) ?_
  refine lv_iadd (pc := 17) hx hb dX5_nearEnd_17 ?_
  replace hf := rA_s hf; obtain ⟨j5, hjj5, htj5, hij5, hf⟩ := hf
  refine x_iald (pc := 18) X V htj5 hij5 hjj5 dX5_nearEnd_18 ?_
  replace hf := nm_s hf; obtain ⟨u6, hu6, hf⟩ := hf
  refine x_topi hu6 ?_
  refine lv_istore (pc := 19) (lv' := [(4, .int u6), (3, .int u4), (0, .ref x0), (1, .int x1), (2, .int x2)]) hx hb dX5_nearEnd_19 hl (by decide) rfl (fun ls hl => ?_)
  refine lv_aload_n (pc := 21) hx hb dX5_nearEnd_21 rfl (lv_at hl 2 rfl) ?_
  refine lv_iload_n (pc := 22) hx hb dX5_nearEnd_22 rfl (lv_at hl 3 rfl) ?_
  refine lv_iload_n (pc := 23) hx hb dX5_nearEnd_23 rfl (lv_at hl 1 rfl) ?_
  replace hf := bs hf; obtain ⟨r7, hk_8, hf⟩ := hf
  refine x_callV0 (pc := 24) (As := [.int x1, .int u4]) (rest := []) X V (mX5_farOf l D dA s0 hk_8) okX5 ht1 q2039 q2041 qs98 q129 q2042 ⟨rfl, hsX5_farOf⟩ ⟨Nat.le_of_ble_eq_true rfl, Nat.le_of_ble_eq_true rfl⟩ rfl hl.1 rfl (Nat.le_of_ble_eq_true rfl) dX5_nearEnd_24 ⟨Nat.zero_le _, Nat.zero_le _⟩ (fun H locs V => W.eq (g2 := F0 m 27 ls [.int r7]) rfl ?_)
  refine lv_aload_n (pc := 27) hx hb dX5_nearEnd_27 rfl (lv_at hl 2 rfl) ?_
  refine lv_iload_n (pc := 28) hx hb dX5_nearEnd_28 rfl (lv_at hl 3 rfl) ?_
  refine lv_iload (pc := 29) hx hb dX5_nearEnd_29 (lv_at hl 0 rfl) ?_
  replace hf := bs hf; obtain ⟨r9, hk_10, hf⟩ := hf
  refine x_callV0 (pc := 31) (As := [.int x1, .int u6]) (rest := [.int r7]) X V (mX5_farOf l D dA s0 hk_10) okX5 ht1 q2039 q2041 qs98 q129 q2042 ⟨rfl, hsX5_farOf⟩ ⟨Nat.le_of_ble_eq_true rfl, Nat.le_of_ble_eq_true rfl⟩ rfl hl.1 rfl (Nat.le_of_ble_eq_true rfl) dX5_nearEnd_31 ⟨Nat.zero_le _, Nat.zero_le _⟩ (fun H locs V => W.eq (g2 := F0 m 34 ls [.int r9, .int r7]) rfl ?_)
  refine lv_isub (pc := 34) hx hb dX5_nearEnd_34 ?_
  replace hf := nm_s hf; obtain ⟨u11, hu11, hf⟩ := hf
  refine x_topi hu11 ?_
  refine lv_istore (pc := 35) (lv' := [(5, .int u11), (4, .int u6), (3, .int u4), (0, .ref x0), (1, .int x1), (2, .int x2)]) hx hb dX5_nearEnd_35 hl (by decide) rfl (fun ls hl => ?_)
  refine lv_iload (pc := 37) hx hb dX5_nearEnd_37 (lv_at hl 0 rfl) ?_
  refine lv_if_lt (pc := 39) (tgt := 53) hx hb dX5_nearEnd_39 (by decide) (fun c12 => ?_) (fun c12 => ?_)
  · replace hf := if_t hf c12
    refine lv_iload_n (pc := 53) hx hb dX5_nearEnd_53 rfl (lv_at hl 2 rfl) ?_
    refine lv_goto (pc := 54) (tgt := 59) hx hb dX5_nearEnd_54 (by decide) ?_
    cases hf
    exact x_iret (pc := 59) X V hr dX5_nearEnd_59
  · replace hf := if_f hf c12
    refine lv_iload (pc := 42) hx hb dX5_nearEnd_42 (lv_at hl 0 rfl) ?_
    refine lv_if_ne (pc := 44) (tgt := 57) hx hb dX5_nearEnd_44 (by decide) (fun c13 => ?_) (fun c13 => ?_)
    · replace hf := if_f hf c13
      refine lv_iload (pc := 57) hx hb dX5_nearEnd_57 (lv_at hl 1 rfl) ?_
      cases hf
      exact x_iret (pc := 59) X V hr dX5_nearEnd_59
    · replace hf := if_t hf c13
      refine lv_iload_n (pc := 47) hx hb dX5_nearEnd_47 rfl (lv_at hl 2 rfl) ?_
      refine lv_iload (pc := 48) hx hb dX5_nearEnd_48 (lv_at hl 1 rfl) ?_
      refine lv_icmp_ge (pc := 50) (tgt := 57) hx hb dX5_nearEnd_50 (by decide) (fun c14 => ?_) (fun c14 => ?_)
      · replace hf := if_t hf c14
        refine lv_iload (pc := 57) hx hb dX5_nearEnd_57 (lv_at hl 1 rfl) ?_
        cases hf
        exact x_iret (pc := 59) X V hr dX5_nearEnd_59
      · replace hf := if_f hf c14
        refine lv_iload_n (pc := 53) hx hb dX5_nearEnd_53 rfl (lv_at hl 2 rfl) ?_
        refine lv_goto (pc := 54) (tgt := 59) hx hb dX5_nearEnd_54 (by decide) ?_
        cases hf
        exact x_iret (pc := 59) X V hr dX5_nearEnd_59
theorem mX5_nearEnd (l : Launch) (D : va_G) (dA : Nat → ClassId) (s0 : Nat) {T : xT} {N : xT} {Z : Nat} {I : xI} {L : xL} {R : xR} {x0 : Nat} {x1 : Int32} {x2 : Int32} {ro : Int32} (hf : fX5_nearEnd T N I R x0 x1 x2 = some ro) : XMet l D dA s0 yX5_nearEnd (ws_ yX5_nearEnd cX5_nearEnd 6 ((some .int))) (1) (22) [.ref x0, .int x1, .int x2] T N Z I L R (some (.int ro)) T N Z I L R 0 0 :=
  x_start (own := RX5) rfl (by decide) (Nat.le_of_ble_eq_true rfl) (lv := [(0, .ref x0), (1, .int x1), (2, .int x2)]) rfl (fun p e s m below meth c ls X hr hini V hl => wX5_nearEnd_e X hr hf V hl)
set_option maxHeartbeats 400000 in
set_option maxRecDepth 100000 in
theorem wX5_laneBetween_b48 {nf : Nat} {p : Program} {l : Launch} {e : Env} {s : State} {m : MethodId} {args : Array Value} {below : List Frame} {meth : Method} {c : Code} {D : va_G} {dA : Nat → ClassId} {s0 : Nat} {T : xT} {N : xT} {Z : Nat} {I : xI} {L : xL} {R : xR} {H : Heap} {locs : List Loc} {ls : Array Slot} {kk7 : Nat → Int32 → Int32 → Int32 → Int32 → Option (Int32)} {x0 : Nat} {x1 : Int32} {x2 : Int32} {x3 : Int32} {x4 : Int32} {z0 : Int32} {ro : Int32} (X : Cx D dA s0 p m c cX5_laneBetween 6 s args RX5 meth) (hr : meth.sig.returnType = (some .int)) (hk7 : ∀ {x0 : Nat} {x1 : Int32} {x2 : Int32} {x3 : Int32} {x4 : Int32} {H : Heap} {locs : List Loc} {ls : Array Slot} , kk7 x0 x1 x2 x3 x4 = some ro → Iv D dA s0 s T N Z I L R H locs → lv_has ls 6 [(0, .ref x0), (1, .int x1), (2, .int x2), (3, .int x3), (4, .int x4)] → W p l e { frames := 1, cells := 0, slots := 0, locals := 22 } s m args below meth c H locs 0 0 (MQ below (xQ D dA s0 (some (.int ro)) T N Z I L R) args s 0 0 (fun q => s0 ≤ q)) (F0 m 7 ls []))  (hf : fX5_laneBetween_b48 nf kk7 T N I R x0 x1 x2 x3 x4 z0 = some ro) (V : Iv D dA s0 s T N Z I L R H locs) (hl : lv_has ls 6 [(0, .ref x0), (1, .int x1), (2, .int x2), (3, .int x3), (4, .int x4)]) : W p l e { frames := 1, cells := 0, slots := 0, locals := 22 } s m args below meth c H locs 0 0 (MQ below (xQ D dA s0 (some (.int ro)) T N Z I L R) args s 0 0 (fun q => s0 ≤ q)) (F0 m 48 ls [.int z0]) := by
  have hx := X.1.1
  have hb := X.1.2.1
  unfold fX5_laneBetween_b48 at hf
  refine lv_istore (pc := 48) (lv' := [(5, .int z0), (0, .ref x0), (1, .int x1), (2, .int x2), (3, .int x3), (4, .int x4)]) hx hb dX5_laneBetween_48 hl (by decide) rfl (fun ls hl => ?_)
  refine lv_iload (pc := 50) hx hb dX5_laneBetween_50 (lv_at hl 0 rfl) ?_
  refine lv_if_eq (pc := 52) (tgt := 82) hx hb dX5_laneBetween_52 (by decide) (fun c1 => ?_) (fun c1 => ?_)
  · replace hf := if_t hf c1
    refine lv_iload_n (pc := 82) hx hb dX5_laneBetween_82 rfl (lv_at hl 4 rfl) ?_
    refine lv_istore_n (pc := 83) (lv' := [(3, .int x3), (5, .int z0), (0, .ref x0), (1, .int x1), (2, .int x2), (4, .int x4)]) hx hb dX5_laneBetween_83 rfl hl (by decide) rfl (fun ls hl => ?_)
    replace hf := nm_s hf; obtain ⟨u2, hu2, hf⟩ := hf
    refine lv_iinc (pc := 84) (v := u2) (lv' := [(4, .int u2), (3, .int x3), (5, .int z0), (0, .ref x0), (1, .int x1), (2, .int x2)]) hx hb dX5_laneBetween_84 hl (k := 5) rfl (by rw [hu2]; rfl) (by decide) rfl (fun ls hl => ?_)
    refine lv_goto (pc := 87) (tgt := 7) hx hb dX5_laneBetween_87 (by decide) ?_
    exact hk7 hf V (lv_sub hl [3, 4, 5, 1, 0] rfl)
  · replace hf := if_f hf c1
    refine lv_aload_n (pc := 55) hx hb dX5_laneBetween_55 rfl (lv_at hl 1 rfl) ?_
    replace hf := tg_s hf; obtain ⟨ht3, hf⟩ := hf
    replace hf := bs hf; obtain ⟨a4, ha4, hf⟩ := hf
    refine x_get (pc := 56) X V okX5 ht3 3 (by decide) q1524 (v := va_rf (R x0 3)) rfl dX5_laneBetween_56 ?_
    refine x_topr ha4 ?_
    refine lv_bipush (pc := 59) (v := (ii 46)) hx hb dX5_laneBetween_59 (by decide) ?_
    refine lv_iload (pc := 61) hx hb dX5_laneBetween_61 (lv_at hl 5 rfl) ?_
    refine lv_iadd (pc := 63) hx hb dX5_laneBetween_63 ?_
    replace hf := rA_s hf; obtain ⟨j5, hjj5, htj5, hij5, hf⟩ := hf
    refine x_iald (pc := 64) X V htj5 hij5 hjj5 dX5_laneBetween_64 ?_
    refine lv_iload_n (pc := 65) hx hb dX5_laneBetween_65 rfl (lv_at hl 4 rfl) ?_
    refine lv_icmp_ge (pc := 66) (tgt := 82) hx hb dX5_laneBetween_66 (by decide) (fun c6 => ?_) (fun c6 => ?_)
    · replace hf := if_t hf c6
      refine lv_iload_n (pc := 82) hx hb dX5_laneBetween_82 rfl (lv_at hl 4 rfl) ?_
      refine lv_istore_n (pc := 83) (lv' := [(3, .int x3), (5, .int z0), (0, .ref x0), (1, .int x1), (2, .int x2), (4, .int x4)]) hx hb dX5_laneBetween_83 rfl hl (by decide) rfl (fun ls hl => ?_)
      replace hf := nm_s hf; obtain ⟨u7, hu7, hf⟩ := hf
      refine lv_iinc (pc := 84) (v := u7) (lv' := [(4, .int u7), (3, .int x3), (5, .int z0), (0, .ref x0), (1, .int x1), (2, .int x2)]) hx hb dX5_laneBetween_84 hl (k := 5) rfl (by rw [hu7]; rfl) (by decide) rfl (fun ls hl => ?_)
      refine lv_goto (pc := 87) (tgt := 7) hx hb dX5_laneBetween_87 (by decide) ?_
      exact hk7 hf V (lv_sub hl [3, 4, 5, 1, 0] rfl)
    · replace hf := if_f hf c6
      refine lv_aload_n (pc := 69) hx hb dX5_laneBetween_69 rfl (lv_at hl 1 rfl) ?_
      refine x_get (pc := 70) X V okX5 ht3 3 (by decide) q1524 (v := va_rf (R x0 3)) rfl dX5_laneBetween_70 ?_
      refine x_topr ha4 ?_
      refine lv_bipush (pc := 73) (v := (ii 46)) hx hb dX5_laneBetween_73 (by decide) ?_
      refine lv_iload (pc := 75) hx hb dX5_laneBetween_75 (lv_at hl 5 rfl) ?_
      refine lv_iadd (pc := 77) hx hb dX5_laneBetween_77 ?_
      refine x_iald (pc := 78) X V htj5 hij5 hjj5 dX5_laneBetween_78 ?_
      refine lv_goto (pc := 79) (tgt := 83) hx hb dX5_laneBetween_79 (by decide) ?_
      replace hf := nm_s hf; obtain ⟨u8, hu8, hf⟩ := hf
      refine x_topi hu8 ?_
      refine lv_istore_n (pc := 83) (lv' := [(3, .int u8), (5, .int z0), (0, .ref x0), (1, .int x1), (2, .int x2), (4, .int x4)]) hx hb dX5_laneBetween_83 rfl hl (by decide) rfl (fun ls hl => ?_)
      replace hf := nm_s hf; obtain ⟨u9, hu9, hf⟩ := hf
      refine lv_iinc (pc := 84) (v := u9) (lv' := [(4, .int u9), (3, .int u8), (5, .int z0), (0, .ref x0), (1, .int x1), (2, .int x2)]) hx hb dX5_laneBetween_84 hl (k := 5) rfl (by rw [hu9]; rfl) (by decide) rfl (fun ls hl => ?_)
      refine lv_goto (pc := 87) (tgt := 7) hx hb dX5_laneBetween_87 (by decide) ?_
      exact hk7 hf V (lv_sub hl [3, 4, 5, 1, 0] rfl)
set_option maxHeartbeats 400000 in
set_option maxRecDepth 100000 in
theorem wX5_laneBetween_b7 {nf : Nat} {p : Program} {l : Launch} {e : Env} {s : State} {m : MethodId} {args : Array Value} {below : List Frame} {meth : Method} {c : Code} {D : va_G} {dA : Nat → ClassId} {s0 : Nat} {T : xT} {N : xT} {Z : Nat} {I : xI} {L : xL} {R : xR}  {ro : Int32} (X : Cx D dA s0 p m c cX5_laneBetween 6 s args RX5 meth) (hr : meth.sig.returnType = (some .int))   (k : Nat) : ∀ {x0 : Nat} {x1 : Int32} {x2 : Int32} {x3 : Int32} {x4 : Int32} {H : Heap} {locs : List Loc} {ls : Array Slot} , fX5_laneBetween_b7 nf T N I R k x0 x1 x2 x3 x4 = some ro → Iv D dA s0 s T N Z I L R H locs → lv_has ls 6 [(0, .ref x0), (1, .int x1), (2, .int x2), (3, .int x3), (4, .int x4)] → W p l e { frames := 1, cells := 0, slots := 0, locals := 22 } s m args below meth c H locs 0 0 (MQ below (xQ D dA s0 (some (.int ro)) T N Z I L R) args s 0 0 (fun q => s0 ≤ q)) (F0 m 7 ls []) := by
  have hx := X.1.1
  have hb := X.1.2.1
  induction k with
  | zero =>
    intro x0 x1 x2 x3 x4 H locs ls hf V hl
    exact absurd (show none = some _ from hf) (fun q => nomatch q)
  | succ k ih =>
    intro x0 x1 x2 x3 x4 H locs ls hf V hl
    rw [fX5_laneBetween_b7] at hf
    refine lv_iload (pc := 7) hx hb dX5_laneBetween_7 (lv_at hl 4 rfl) ?_
    refine lv_aload_n (pc := 9) hx hb dX5_laneBetween_9 rfl (lv_at hl 0 rfl) ?_
    replace hf := tg_s hf; obtain ⟨ht1, hf⟩ := hf
    replace hf := bs hf; obtain ⟨a2, ha2, hf⟩ := hf
    refine x_get (pc := 10) X V okX5 ht1 3 (by decide) q1524 (v := va_rf (R x0 3)) rfl dX5_laneBetween_10 ?_
    refine x_topr ha2 ?_
    refine lv_iconst (pc := 13) (v := (ii 0)) hx hb dX5_laneBetween_13 (by decide) ?_
    replace hf := rA_s hf; obtain ⟨j3, hjj3, htj3, hij3, hf⟩ := hf
    refine x_iald (pc := 14) X V htj3 hij3 hjj3 dX5_laneBetween_14 ?_
    refine lv_icmp_ge (pc := 15) (tgt := 90) hx hb dX5_laneBetween_15 (by decide) (fun c4 => ?_) (fun c4 => ?_)
    · replace hf := if_t hf c4
      refine lv_iload_n (pc := 90) hx hb dX5_laneBetween_90 rfl (lv_at hl 3 rfl) ?_
      cases hf
      exact x_iret (pc := 91) X V hr dX5_laneBetween_91
    · replace hf := if_f hf c4
      refine lv_aload_n (pc := 18) hx hb dX5_laneBetween_18 rfl (lv_at hl 0 rfl) ?_
      refine lv_iload (pc := 19) hx hb dX5_laneBetween_19 (lv_at hl 4 rfl) ?_
      refine lv_iload_n (pc := 21) hx hb dX5_laneBetween_21 rfl (lv_at hl 1 rfl) ?_
      replace hf := bs hf; obtain ⟨r5, hk_6, hf⟩ := hf
      refine x_callV0 (pc := 22) (As := [.int x4, .int x1]) (rest := []) X V (mX5_ends l D dA s0 hk_6) okX5 ht1 q1792 q1794 qs58 q129 q1795 ⟨rfl, hsX5_ends⟩ ⟨Nat.le_of_ble_eq_true rfl, Nat.le_of_ble_eq_true rfl⟩ rfl hl.1 rfl (Nat.le_of_ble_eq_true rfl) dX5_laneBetween_22 ⟨Nat.zero_le _, Nat.zero_le _⟩ (fun H locs V => W.eq (g2 := F0 m 25 ls [.int r5]) rfl ?_)
      refine lv_if_eq (pc := 25) (tgt := 47) hx hb dX5_laneBetween_25 (by decide) (fun c7 => ?_) (fun c7 => ?_)
      · replace hf := if_t hf c7
        refine lv_iconst (pc := 47) (v := (ii 0)) hx hb dX5_laneBetween_47 (by decide) ?_
        exact wX5_laneBetween_b48 X hr ih hf V (lv_sub hl [0, 1, 2, 3, 4] rfl)
      · replace hf := if_f hf c7
        refine lv_aload_n (pc := 28) hx hb dX5_laneBetween_28 rfl (lv_at hl 0 rfl) ?_
        refine lv_iload (pc := 29) hx hb dX5_laneBetween_29 (lv_at hl 4 rfl) ?_
        refine lv_iload_n (pc := 31) hx hb dX5_laneBetween_31 rfl (lv_at hl 2 rfl) ?_
        replace hf := bs hf; obtain ⟨r8, hk_9, hf⟩ := hf
        refine x_callV0 (pc := 32) (As := [.int x4, .int x2]) (rest := []) X V (mX5_ends l D dA s0 hk_9) okX5 ht1 q1792 q1794 qs58 q129 q1795 ⟨rfl, hsX5_ends⟩ ⟨Nat.le_of_ble_eq_true rfl, Nat.le_of_ble_eq_true rfl⟩ rfl hl.1 rfl (Nat.le_of_ble_eq_true rfl) dX5_laneBetween_32 ⟨Nat.zero_le _, Nat.zero_le _⟩ (fun H locs V => W.eq (g2 := F0 m 35 ls [.int r8]) rfl ?_)
        refine lv_if_eq (pc := 35) (tgt := 47) hx hb dX5_laneBetween_35 (by decide) (fun c10 => ?_) (fun c10 => ?_)
        · replace hf := if_t hf c10
          refine lv_iconst (pc := 47) (v := (ii 0)) hx hb dX5_laneBetween_47 (by decide) ?_
          exact wX5_laneBetween_b48 X hr ih hf V (lv_sub hl [0, 1, 2, 3, 4] rfl)
        · replace hf := if_f hf c10
          refine lv_iload_n (pc := 38) hx hb dX5_laneBetween_38 rfl (lv_at hl 1 rfl) ?_
          refine lv_iload_n (pc := 39) hx hb dX5_laneBetween_39 rfl (lv_at hl 2 rfl) ?_
          refine lv_icmp_eq (pc := 40) (tgt := 47) hx hb dX5_laneBetween_40 (by decide) (fun c11 => ?_) (fun c11 => ?_)
          · replace hf := if_t hf c11
            refine lv_iconst (pc := 47) (v := (ii 0)) hx hb dX5_laneBetween_47 (by decide) ?_
            exact wX5_laneBetween_b48 X hr ih hf V (lv_sub hl [0, 1, 2, 3, 4] rfl)
          · replace hf := if_f hf c11
            refine lv_iconst (pc := 43) (v := (ii 1)) hx hb dX5_laneBetween_43 (by decide) ?_
            refine lv_goto (pc := 44) (tgt := 48) hx hb dX5_laneBetween_44 (by decide) ?_
            exact wX5_laneBetween_b48 X hr ih hf V (lv_sub hl [0, 1, 2, 3, 4] rfl)
set_option maxHeartbeats 400000 in
set_option maxRecDepth 100000 in
theorem wX5_laneBetween_e {nf : Nat} {p : Program} {l : Launch} {e : Env} {s : State} {m : MethodId} {args : Array Value} {below : List Frame} {meth : Method} {c : Code} {D : va_G} {dA : Nat → ClassId} {s0 : Nat} {T : xT} {N : xT} {Z : Nat} {I : xI} {L : xL} {R : xR} {H : Heap} {locs : List Loc} {ls : Array Slot} {x0 : Nat} {x1 : Int32} {x2 : Int32} {ro : Int32} (X : Cx D dA s0 p m c cX5_laneBetween 6 s args RX5 meth) (hr : meth.sig.returnType = (some .int)) (hf : fX5_laneBetween nf T N I R x0 x1 x2 = some ro) (V : Iv D dA s0 s T N Z I L R H locs) (hl : lv_has ls 6 [(0, .ref x0), (1, .int x1), (2, .int x2)]) : W p l e { frames := 1, cells := 0, slots := 0, locals := 22 } s m args below meth c H locs 0 0 (MQ below (xQ D dA s0 (some (.int ro)) T N Z I L R) args s 0 0 (fun q => s0 ≤ q)) (F0 m 0 ls []) := by
  have hx := X.1.1
  have hb := X.1.2.1
  unfold fX5_laneBetween at hf
  refine lv_ldcw (pc := 0) (v := (ii 100000000)) hx hb X.1.2.2.2.1 (X.1.2.2.2.2 _ q2038) dX5_laneBetween_0 ?_
  refine lv_istore_n (pc := 3) (lv' := [(3, .int (ii 100000000)), (0, .ref x0), (1, .int x1), (2, .int x2)]) hx hb dX5_laneBetween_3 rfl hl (by decide) rfl (fun ls hl => ?_)
  refine lv_iconst (pc := 4) (v := (ii 0)) hx hb dX5_laneBetween_4 (by decide) ?_
  refine lv_istore (pc := 5) (lv' := [(4, .int (ii 0)), (3, .int (ii 100000000)), (0, .ref x0), (1, .int x1), (2, .int x2)]) hx hb dX5_laneBetween_5 hl (by decide) rfl (fun ls hl => ?_)
  exact wX5_laneBetween_b7 X hr nf hf V (lv_sub hl [2, 3, 4, 1, 0] rfl)
theorem mX5_laneBetween {nf : Nat} (l : Launch) (D : va_G) (dA : Nat → ClassId) (s0 : Nat) {T : xT} {N : xT} {Z : Nat} {I : xI} {L : xL} {R : xR} {x0 : Nat} {x1 : Int32} {x2 : Int32} {ro : Int32} (hf : fX5_laneBetween nf T N I R x0 x1 x2 = some ro) : XMet l D dA s0 yX5_laneBetween (ws_ yX5_laneBetween cX5_laneBetween 6 ((some .int))) (1) (22) [.ref x0, .int x1, .int x2] T N Z I L R (some (.int ro)) T N Z I L R 0 0 :=
  x_start (own := RX5) rfl (by decide) (Nat.le_of_ble_eq_true rfl) (lv := [(0, .ref x0), (1, .int x1), (2, .int x2)]) rfl (fun p e s m below meth c ls X hr hini V hl => wX5_laneBetween_e X hr hf V hl)
set_option maxHeartbeats 400000 in
set_option maxRecDepth 100000 in
theorem wX5_letter_b187 {nf : Nat} {p : Program} {l : Launch} {e : Env} {s : State} {m : MethodId} {args : Array Value} {below : List Frame} {meth : Method} {c : Code} {D : va_G} {dA : Nat → ClassId} {s0 : Nat} {T : xT} {N : xT} {Z : Nat} {L : xL} {R : xR} {kk169 : xI → Nat → Int32 → Int32 → Int32 → Int32 → Option (Int32 × xI)} {ro : Int32} {Io : xI} (X : Cx D dA s0 p m c cX5_letter 10 s args RX5 meth) (hr : meth.sig.returnType = (some .int)) (hk169 : ∀ {I : xI} {x0 : Nat} {x3 : Int32} {x6 : Int32} {x7 : Int32} {x8 : Int32} {H : Heap} {locs : List Loc} {ls : Array Slot} , kk169 I x0 x3 x6 x7 x8 = some (ro, Io) → Iv D dA s0 s T N Z I L R H locs → lv_has ls 10 [(0, .ref x0), (3, .int x3), (6, .int x6), (7, .int x7), (8, .int x8)] → W p l e { frames := 2, cells := 0, slots := 0, locals := 47 } s m args below meth c H locs 0 0 (MQ below (xQ D dA s0 (some (.int ro)) T N Z Io L R) args s 0 0 (fun q => s0 ≤ q)) (F0 m 169 ls []))  (k : Nat) : ∀ {I : xI} {x0 : Nat} {x3 : Int32} {x6 : Int32} {x7 : Int32} {x8 : Int32} {x9 : Int32} {H : Heap} {locs : List Loc} {ls : Array Slot} , fX5_letter_b187 nf kk169 T N R k I x0 x3 x6 x7 x8 x9 = some (ro, Io) → Iv D dA s0 s T N Z I L R H locs → lv_has ls 10 [(0, .ref x0), (3, .int x3), (6, .int x6), (7, .int x7), (8, .int x8), (9, .int x9)] → W p l e { frames := 2, cells := 0, slots := 0, locals := 47 } s m args below meth c H locs 0 0 (MQ below (xQ D dA s0 (some (.int ro)) T N Z Io L R) args s 0 0 (fun q => s0 ≤ q)) (F0 m 187 ls []) := by
  have hx := X.1.1
  have hb := X.1.2.1
  induction k with
  | zero =>
    intro I x0 x3 x6 x7 x8 x9 H locs ls hf V hl
    exact absurd (show none = some _ from hf) (fun q => nomatch q)
  | succ k ih =>
    intro I x0 x3 x6 x7 x8 x9 H locs ls hf V hl
    rw [fX5_letter_b187] at hf
    refine lv_aload_n (pc := 187) hx hb dX5_letter_187 rfl (lv_at hl 0 rfl) ?_
    refine lv_iload (pc := 188) hx hb dX5_letter_188 (lv_at hl 3 rfl) ?_
    refine lv_iload (pc := 190) hx hb dX5_letter_190 (lv_at hl 5 rfl) ?_
    replace hf := tg_s hf; obtain ⟨ht3, hf⟩ := hf
    replace hf := bs hf; obtain ⟨r1, hk_2, hf⟩ := hf
    refine x_callV0 (pc := 192) (As := [.int x7, .int x9]) (rest := []) X V (mX5_laneBetween l D dA s0 hk_2) okX5 ht3 q2108 q2110 qs104 q129 q2111 ⟨rfl, hsX5_laneBetween⟩ ⟨Nat.le_of_ble_eq_true rfl, Nat.le_of_ble_eq_true rfl⟩ rfl hl.1 rfl (Nat.le_of_ble_eq_true rfl) dX5_letter_192 ⟨Nat.zero_le _, Nat.zero_le _⟩ (fun H locs V => W.eq (g2 := F0 m 195 ls [.int r1]) rfl ?_)
    refine lv_ldcw (pc := 195) (v := (ii 100000000)) hx hb X.1.2.2.2.1 (X.1.2.2.2.2 _ q2038) dX5_letter_195 ?_
    refine lv_icmp_eq (pc := 198) (tgt := 229) hx hb dX5_letter_198 (by decide) (fun c4 => ?_) (fun c4 => ?_)
    · replace hf := if_t hf c4
      replace hf := nm_s hf; obtain ⟨u5, hu5, hf⟩ := hf
      refine lv_iinc (pc := 229) (v := u5) (lv' := [(9, .int u5), (0, .ref x0), (3, .int x3), (6, .int x6), (7, .int x7), (8, .int x8)]) hx hb dX5_letter_229 hl (k := 5) rfl (by rw [hu5]; rfl) (by decide) rfl (fun ls hl => ?_)
      refine lv_goto (pc := 232) (tgt := 187) hx hb dX5_letter_232 (by decide) ?_
      exact ih hf V (lv_sub hl [1, 2, 3, 4, 5, 0] rfl)
    · replace hf := if_f hf c4
      refine lv_aload_n (pc := 201) hx hb dX5_letter_201 rfl (lv_at hl 0 rfl) ?_
      refine lv_iload (pc := 202) hx hb dX5_letter_202 (lv_at hl 3 rfl) ?_
      refine lv_iload (pc := 204) hx hb dX5_letter_204 (lv_at hl 5 rfl) ?_
      replace hf := bs hf; obtain ⟨r6, hk_7, hf⟩ := hf
      refine x_callV0 (pc := 206) (As := [.int x7, .int x9]) (rest := []) X V (mX5_laneBetween l D dA s0 hk_7) okX5 ht3 q2108 q2110 qs104 q129 q2111 ⟨rfl, hsX5_laneBetween⟩ ⟨Nat.le_of_ble_eq_true rfl, Nat.le_of_ble_eq_true rfl⟩ rfl hl.1 rfl (Nat.le_of_ble_eq_true rfl) dX5_letter_206 ⟨Nat.zero_le _, Nat.zero_le _⟩ (fun H locs V => W.eq (g2 := F0 m 209 ls [.int r6]) rfl ?_)
      refine lv_aload_n (pc := 209) hx hb dX5_letter_209 rfl (lv_at hl 0 rfl) ?_
      refine lv_iload (pc := 210) hx hb dX5_letter_210 (lv_at hl 5 rfl) ?_
      refine lv_iload (pc := 212) hx hb dX5_letter_212 (lv_at hl 2 rfl) ?_
      replace hf := bs hf; obtain ⟨r8, hk_9, hf⟩ := hf
      refine x_callV0 (pc := 214) (As := [.int x9, .int x6]) (rest := [.int r6]) X V (mX5_farOf l D dA s0 hk_9) okX5 ht3 q2039 q2041 qs98 q129 q2042 ⟨rfl, hsX5_farOf⟩ ⟨Nat.le_of_ble_eq_true rfl, Nat.le_of_ble_eq_true rfl⟩ rfl hl.1 rfl (Nat.le_of_ble_eq_true rfl) dX5_letter_214 ⟨Nat.zero_le _, Nat.zero_le _⟩ (fun H locs V => W.eq (g2 := F0 m 217 ls [.int r8, .int r6]) rfl ?_)
      refine lv_iadd (pc := 217) hx hb dX5_letter_217 ?_
      refine lv_aload_n (pc := 218) hx hb dX5_letter_218 rfl (lv_at hl 0 rfl) ?_
      refine lv_iload (pc := 219) hx hb dX5_letter_219 (lv_at hl 3 rfl) ?_
      refine lv_iload (pc := 221) hx hb dX5_letter_221 (lv_at hl 2 rfl) ?_
      replace hf := bs hf; obtain ⟨r10, hk_11, hf⟩ := hf
      refine x_callV0 (pc := 223) (As := [.int x7, .int x6]) (rest := [.int (r6 + r8)]) X V (mX5_farOf l D dA s0 hk_11) okX5 ht3 q2039 q2041 qs98 q129 q2042 ⟨rfl, hsX5_farOf⟩ ⟨Nat.le_of_ble_eq_true rfl, Nat.le_of_ble_eq_true rfl⟩ rfl hl.1 rfl (Nat.le_of_ble_eq_true rfl) dX5_letter_223 ⟨Nat.zero_le _, Nat.zero_le _⟩ (fun H locs V => W.eq (g2 := F0 m 226 ls [.int r10, .int (r6 + r8)]) rfl ?_)
      refine lv_icmp_eq (pc := 226) (tgt := 235) hx hb dX5_letter_226 (by decide) (fun c12 => ?_) (fun c12 => ?_)
      · replace hf := if_t hf c12
        refine lv_iload (pc := 235) hx hb dX5_letter_235 (lv_at hl 5 rfl) ?_
        refine lv_istore (pc := 237) (lv' := [(7, .int x9), (0, .ref x0), (3, .int x3), (6, .int x6), (8, .int x8), (9, .int x9)]) hx hb dX5_letter_237 hl (by decide) rfl (fun ls hl => ?_)
        replace hf := nm_s hf; obtain ⟨u13, hu13, hf⟩ := hf
        refine lv_iinc (pc := 239) (v := u13) (lv' := [(8, .int u13), (7, .int x9), (0, .ref x0), (3, .int x3), (6, .int x6), (9, .int x9)]) hx hb dX5_letter_239 hl (k := 4) rfl (by rw [hu13]; rfl) (by decide) rfl (fun ls hl => ?_)
        refine lv_goto (pc := 242) (tgt := 169) hx hb dX5_letter_242 (by decide) ?_
        exact hk169 hf V (lv_sub hl [2, 3, 4, 1, 0] rfl)
      · replace hf := if_f hf c12
        replace hf := nm_s hf; obtain ⟨u14, hu14, hf⟩ := hf
        refine lv_iinc (pc := 229) (v := u14) (lv' := [(9, .int u14), (0, .ref x0), (3, .int x3), (6, .int x6), (7, .int x7), (8, .int x8)]) hx hb dX5_letter_229 hl (k := 5) rfl (by rw [hu14]; rfl) (by decide) rfl (fun ls hl => ?_)
        refine lv_goto (pc := 232) (tgt := 187) hx hb dX5_letter_232 (by decide) ?_
        exact ih hf V (lv_sub hl [1, 2, 3, 4, 5, 0] rfl)
set_option maxHeartbeats 400000 in
set_option maxRecDepth 100000 in
theorem wX5_letter_b169 {nf : Nat} {p : Program} {l : Launch} {e : Env} {s : State} {m : MethodId} {args : Array Value} {below : List Frame} {meth : Method} {c : Code} {D : va_G} {dA : Nat → ClassId} {s0 : Nat} {T : xT} {N : xT} {Z : Nat} {L : xL} {R : xR}  {ro : Int32} {Io : xI} (X : Cx D dA s0 p m c cX5_letter 10 s args RX5 meth) (hr : meth.sig.returnType = (some .int))   (k : Nat) : ∀ {I : xI} {x0 : Nat} {x3 : Int32} {x6 : Int32} {x7 : Int32} {x8 : Int32} {H : Heap} {locs : List Loc} {ls : Array Slot} , fX5_letter_b169 nf T N R k I x0 x3 x6 x7 x8 = some (ro, Io) → Iv D dA s0 s T N Z I L R H locs → lv_has ls 10 [(0, .ref x0), (3, .int x3), (6, .int x6), (7, .int x7), (8, .int x8)] → W p l e { frames := 2, cells := 0, slots := 0, locals := 47 } s m args below meth c H locs 0 0 (MQ below (xQ D dA s0 (some (.int ro)) T N Z Io L R) args s 0 0 (fun q => s0 ≤ q)) (F0 m 169 ls []) := by
  have hx := X.1.1
  have hb := X.1.2.1
  induction k with
  | zero =>
    intro I x0 x3 x6 x7 x8 H locs ls hf V hl
    exact absurd (show none = some _ from hf) (fun q => nomatch q)
  | succ k ih =>
    intro I x0 x3 x6 x7 x8 H locs ls hf V hl
    rw [fX5_letter_b169] at hf
    refine lv_iload (pc := 169) hx hb dX5_letter_169 (lv_at hl 4 rfl) ?_
    refine lv_iload_n (pc := 171) hx hb dX5_letter_171 rfl (lv_at hl 1 rfl) ?_
    refine lv_icmp_gt (pc := 172) (tgt := 245) hx hb dX5_letter_172 (by decide) (fun c1 => ?_) (fun c1 => ?_)
    · replace hf := if_t hf c1
      refine lv_iload (pc := 245) hx hb dX5_letter_245 (lv_at hl 3 rfl) ?_
      cases hf
      exact x_iret (pc := 247) X V hr dX5_letter_247
    · replace hf := if_f hf c1
      refine lv_iload (pc := 175) hx hb dX5_letter_175 (lv_at hl 3 rfl) ?_
      refine lv_iload (pc := 177) hx hb dX5_letter_177 (lv_at hl 2 rfl) ?_
      refine lv_icmp_ne (pc := 179) (tgt := 184) hx hb dX5_letter_179 (by decide) (fun c2 => ?_) (fun c2 => ?_)
      · replace hf := if_f hf c2
        refine lv_iconst (pc := 184) (v := (ii 0)) hx hb dX5_letter_184 (by decide) ?_
        refine lv_istore (pc := 185) (lv' := [(9, .int (ii 0)), (0, .ref x0), (3, .int x3), (6, .int x6), (7, .int x7), (8, .int x8)]) hx hb dX5_letter_185 hl (by decide) rfl (fun ls hl => ?_)
        exact wX5_letter_b187 X hr ih nf hf V (lv_sub hl [1, 2, 3, 4, 5, 0] rfl)
      · replace hf := if_t hf c2
        refine lv_iconst (pc := 182) (v := (-1 : Int32)) hx hb dX5_letter_182 (by decide) ?_
        cases hf
        exact x_iret (pc := 183) X V hr dX5_letter_183
set_option maxHeartbeats 400000 in
set_option maxRecDepth 100000 in
theorem wX5_letter_b134 {nf : Nat} {p : Program} {l : Launch} {e : Env} {s : State} {m : MethodId} {args : Array Value} {below : List Frame} {meth : Method} {c : Code} {D : va_G} {dA : Nat → ClassId} {s0 : Nat} {T : xT} {N : xT} {Z : Nat} {I : xI} {L : xL} {R : xR} {H : Heap} {locs : List Loc} {ls : Array Slot}  {x3 : Int32} {x4 : Int32} {x5 : Int32} {ro : Int32} {Io : xI} (X : Cx D dA s0 p m c cX5_letter 10 s args RX5 meth) (hr : meth.sig.returnType = (some .int))   (hf : fX5_letter_b134 nf T N I R x3 x4 x5 = some (ro, Io)) (V : Iv D dA s0 s T N Z I L R H locs) (hl : lv_has ls 10 [(3, .int x3), (4, .int x4), (5, .int x5)]) : W p l e { frames := 2, cells := 0, slots := 0, locals := 47 } s m args below meth c H locs 0 0 (MQ below (xQ D dA s0 (some (.int ro)) T N Z Io L R) args s 0 0 (fun q => s0 ≤ q)) (F0 m 134 ls []) := by
  have hx := X.1.1
  have hb := X.1.2.1
  unfold fX5_letter_b134 at hf
  refine lv_iload (pc := 134) hx hb dX5_letter_134 (lv_at hl 2 rfl) ?_
  refine lv_iconst (pc := 136) (v := (-1 : Int32)) hx hb dX5_letter_136 (by decide) ?_
  refine lv_icmp_eq (pc := 137) (tgt := 146) hx hb dX5_letter_137 (by decide) (fun c1 => ?_) (fun c1 => ?_)
  · replace hf := if_t hf c1
    refine lv_iload (pc := 146) hx hb dX5_letter_146 (lv_at hl 2 rfl) ?_
    refine lv_goto (pc := 148) (tgt := 153) hx hb dX5_letter_148 (by decide) ?_
    cases hf
    exact x_iret (pc := 153) X V hr dX5_letter_153
  · replace hf := if_f hf c1
    refine lv_iload_n (pc := 140) hx hb dX5_letter_140 rfl (lv_at hl 0 rfl) ?_
    refine lv_bipush (pc := 141) (v := (-2 : Int32)) hx hb dX5_letter_141 (by decide) ?_
    refine lv_icmp_ne (pc := 143) (tgt := 151) hx hb dX5_letter_143 (by decide) (fun c2 => ?_) (fun c2 => ?_)
    · replace hf := if_f hf c2
      refine lv_iload (pc := 151) hx hb dX5_letter_151 (lv_at hl 1 rfl) ?_
      cases hf
      exact x_iret (pc := 153) X V hr dX5_letter_153
    · replace hf := if_t hf c2
      refine lv_iload (pc := 146) hx hb dX5_letter_146 (lv_at hl 2 rfl) ?_
      refine lv_goto (pc := 148) (tgt := 153) hx hb dX5_letter_148 (by decide) ?_
      cases hf
      exact x_iret (pc := 153) X V hr dX5_letter_153
set_option maxHeartbeats 400000 in
set_option maxRecDepth 100000 in
theorem wX5_letter_b100 {nf : Nat} {p : Program} {l : Launch} {e : Env} {s : State} {m : MethodId} {args : Array Value} {below : List Frame} {meth : Method} {c : Code} {D : va_G} {dA : Nat → ClassId} {s0 : Nat} {T : xT} {N : xT} {Z : Nat} {I : xI} {L : xL} {R : xR} {H : Heap} {locs : List Loc} {ls : Array Slot} {kk47 : xI → Nat → Int32 → Int32 → Int32 → Int32 → Int32 → Int32 → Option (Int32 × xI)} {x0 : Nat} {x1 : Int32} {x2 : Int32} {x3 : Int32} {x4 : Int32} {x6 : Int32} {x7 : Int32} {z0 : Int32} {ro : Int32} {Io : xI} (X : Cx D dA s0 p m c cX5_letter 10 s args RX5 meth) (hr : meth.sig.returnType = (some .int)) (hk47 : ∀ {I : xI} {x0 : Nat} {x1 : Int32} {x2 : Int32} {x3 : Int32} {x4 : Int32} {x5 : Int32} {x6 : Int32} {H : Heap} {locs : List Loc} {ls : Array Slot} , kk47 I x0 x1 x2 x3 x4 x5 x6 = some (ro, Io) → Iv D dA s0 s T N Z I L R H locs → lv_has ls 10 [(0, .ref x0), (1, .int x1), (2, .int x2), (3, .int x3), (4, .int x4), (5, .int x5), (6, .int x6)] → W p l e { frames := 2, cells := 0, slots := 0, locals := 47 } s m args below meth c H locs 0 0 (MQ below (xQ D dA s0 (some (.int ro)) T N Z Io L R) args s 0 0 (fun q => s0 ≤ q)) (F0 m 47 ls []))  (hf : fX5_letter_b100 nf kk47 T N I R x0 x1 x2 x3 x4 x6 x7 z0 = some (ro, Io)) (V : Iv D dA s0 s T N Z I L R H locs) (hl : lv_has ls 10 [(0, .ref x0), (1, .int x1), (2, .int x2), (3, .int x3), (4, .int x4), (6, .int x6), (7, .int x7)]) : W p l e { frames := 2, cells := 0, slots := 0, locals := 47 } s m args below meth c H locs 0 0 (MQ below (xQ D dA s0 (some (.int ro)) T N Z Io L R) args s 0 0 (fun q => s0 ≤ q)) (F0 m 100 ls [.int z0]) := by
  have hx := X.1.1
  have hb := X.1.2.1
  unfold fX5_letter_b100 at hf
  refine lv_istore (pc := 100) (lv' := [(5, .int z0), (0, .ref x0), (1, .int x1), (2, .int x2), (3, .int x3), (4, .int x4), (6, .int x6), (7, .int x7)]) hx hb dX5_letter_100 hl (by decide) rfl (fun ls hl => ?_)
  refine lv_iload (pc := 102) hx hb dX5_letter_102 (lv_at hl 7 rfl) ?_
  refine lv_iload (pc := 104) hx hb dX5_letter_104 (lv_at hl 5 rfl) ?_
  refine lv_icmp_ge (pc := 106) (tgt := 114) hx hb dX5_letter_106 (by decide) (fun c1 => ?_) (fun c1 => ?_)
  · replace hf := if_t hf c1
    refine lv_iload (pc := 114) hx hb dX5_letter_114 (lv_at hl 5 rfl) ?_
    refine lv_istore (pc := 116) (lv' := [(4, .int x4), (5, .int z0), (0, .ref x0), (1, .int x1), (2, .int x2), (3, .int x3), (6, .int x6), (7, .int x7)]) hx hb dX5_letter_116 hl (by decide) rfl (fun ls hl => ?_)
    replace hf := nm_s hf; obtain ⟨u2, hu2, hf⟩ := hf
    refine lv_iinc (pc := 118) (v := u2) (lv' := [(6, .int u2), (4, .int x4), (5, .int z0), (0, .ref x0), (1, .int x1), (2, .int x2), (3, .int x3), (7, .int x7)]) hx hb dX5_letter_118 hl (k := 6) rfl (by rw [hu2]; rfl) (by decide) rfl (fun ls hl => ?_)
    refine lv_goto (pc := 121) (tgt := 47) hx hb dX5_letter_121 (by decide) ?_
    exact hk47 hf V (lv_sub hl [3, 4, 5, 6, 1, 2, 0] rfl)
  · replace hf := if_f hf c1
    refine lv_iload (pc := 109) hx hb dX5_letter_109 (lv_at hl 7 rfl) ?_
    refine lv_goto (pc := 111) (tgt := 116) hx hb dX5_letter_111 (by decide) ?_
    refine lv_istore (pc := 116) (lv' := [(4, .int x7), (5, .int z0), (0, .ref x0), (1, .int x1), (2, .int x2), (3, .int x3), (6, .int x6), (7, .int x7)]) hx hb dX5_letter_116 hl (by decide) rfl (fun ls hl => ?_)
    replace hf := nm_s hf; obtain ⟨u3, hu3, hf⟩ := hf
    refine lv_iinc (pc := 118) (v := u3) (lv' := [(6, .int u3), (4, .int x7), (5, .int z0), (0, .ref x0), (1, .int x1), (2, .int x2), (3, .int x3), (7, .int x7)]) hx hb dX5_letter_118 hl (k := 6) rfl (by rw [hu3]; rfl) (by decide) rfl (fun ls hl => ?_)
    refine lv_goto (pc := 121) (tgt := 47) hx hb dX5_letter_121 (by decide) ?_
    exact hk47 hf V (lv_sub hl [3, 4, 5, 6, 1, 2, 0] rfl)
set_option maxHeartbeats 400000 in
set_option maxRecDepth 100000 in
theorem wX5_letter_b47 {nf : Nat} {p : Program} {l : Launch} {e : Env} {s : State} {m : MethodId} {args : Array Value} {below : List Frame} {meth : Method} {c : Code} {D : va_G} {dA : Nat → ClassId} {s0 : Nat} {T : xT} {N : xT} {Z : Nat} {L : xL} {R : xR}  {ro : Int32} {Io : xI} (X : Cx D dA s0 p m c cX5_letter 10 s args RX5 meth) (hr : meth.sig.returnType = (some .int))   (k : Nat) : ∀ {I : xI} {x0 : Nat} {x1 : Int32} {x2 : Int32} {x3 : Int32} {x4 : Int32} {x5 : Int32} {x6 : Int32} {H : Heap} {locs : List Loc} {ls : Array Slot} , fX5_letter_b47 nf T N R k I x0 x1 x2 x3 x4 x5 x6 = some (ro, Io) → Iv D dA s0 s T N Z I L R H locs → lv_has ls 10 [(0, .ref x0), (1, .int x1), (2, .int x2), (3, .int x3), (4, .int x4), (5, .int x5), (6, .int x6)] → W p l e { frames := 2, cells := 0, slots := 0, locals := 47 } s m args below meth c H locs 0 0 (MQ below (xQ D dA s0 (some (.int ro)) T N Z Io L R) args s 0 0 (fun q => s0 ≤ q)) (F0 m 47 ls []) := by
  have hx := X.1.1
  have hb := X.1.2.1
  induction k with
  | zero =>
    intro I x0 x1 x2 x3 x4 x5 x6 H locs ls hf V hl
    exact absurd (show none = some _ from hf) (fun q => nomatch q)
  | succ k ih =>
    intro I x0 x1 x2 x3 x4 x5 x6 H locs ls hf V hl
    rw [fX5_letter_b47] at hf
    refine lv_iload (pc := 47) hx hb dX5_letter_47 (lv_at hl 6 rfl) ?_
    refine lv_aload_n (pc := 49) hx hb dX5_letter_49 rfl (lv_at hl 0 rfl) ?_
    replace hf := tg_s hf; obtain ⟨ht1, hf⟩ := hf
    replace hf := bs hf; obtain ⟨a2, ha2, hf⟩ := hf
    refine x_get (pc := 50) X V okX5 ht1 3 (by decide) q1524 (v := va_rf (R x0 3)) rfl dX5_letter_50 ?_
    refine x_topr ha2 ?_
    refine lv_iconst (pc := 53) (v := (ii 0)) hx hb dX5_letter_53 (by decide) ?_
    replace hf := rA_s hf; obtain ⟨j3, hjj3, htj3, hij3, hf⟩ := hf
    refine x_iald (pc := 54) X V htj3 hij3 hjj3 dX5_letter_54 ?_
    refine lv_icmp_ge (pc := 55) (tgt := 124) hx hb dX5_letter_55 (by decide) (fun c4 => ?_) (fun c4 => ?_)
    · replace hf := if_t hf c4
      refine lv_iload (pc := 124) hx hb dX5_letter_124 (lv_at hl 5 rfl) ?_
      refine lv_iconst (pc := 126) (v := (-1 : Int32)) hx hb dX5_letter_126 (by decide) ?_
      refine lv_icmp_eq (pc := 127) (tgt := 134) hx hb dX5_letter_127 (by decide) (fun c5 => ?_) (fun c5 => ?_)
      · replace hf := if_t hf c5
        exact wX5_letter_b134 X hr hf V (lv_sub hl [3, 4, 5] rfl)
      · replace hf := if_f hf c5
        refine lv_iload_n (pc := 130) hx hb dX5_letter_130 rfl (lv_at hl 3 rfl) ?_
        refine lv_if_ge (pc := 131) (tgt := 154) hx hb dX5_letter_131 (by decide) (fun c6 => ?_) (fun c6 => ?_)
        · replace hf := if_t hf c6
          refine lv_aload_n (pc := 154) hx hb dX5_letter_154 rfl (lv_at hl 0 rfl) ?_
          refine lv_iload_n (pc := 155) hx hb dX5_letter_155 rfl (lv_at hl 1 rfl) ?_
          refine lv_iload (pc := 156) hx hb dX5_letter_156 (lv_at hl 5 rfl) ?_
          replace hf := bs hf; obtain ⟨r7, hk_8, hf⟩ := hf
          refine x_callV0 (pc := 158) (As := [.int x1, .int x5]) (rest := []) X V (mX5_nearEnd l D dA s0 hk_8) okX5 ht1 q2104 q2106 qs103 q129 q2107 ⟨rfl, hsX5_nearEnd⟩ ⟨Nat.le_of_ble_eq_true rfl, Nat.le_of_ble_eq_true rfl⟩ rfl hl.1 rfl (Nat.le_of_ble_eq_true rfl) dX5_letter_158 ⟨Nat.zero_le _, Nat.zero_le _⟩ (fun H locs V => W.eq (g2 := F0 m 161 ls [.int r7]) rfl ?_)
          refine lv_istore (pc := 161) (lv' := [(6, .int r7), (0, .ref x0), (1, .int x1), (2, .int x2), (3, .int x3), (4, .int x4), (5, .int x5)]) hx hb dX5_letter_161 hl (by decide) rfl (fun ls hl => ?_)
          refine lv_iload_n (pc := 163) hx hb dX5_letter_163 rfl (lv_at hl 2 rfl) ?_
          refine lv_istore (pc := 164) (lv' := [(7, .int x1), (6, .int r7), (0, .ref x0), (1, .int x1), (2, .int x2), (3, .int x3), (4, .int x4), (5, .int x5)]) hx hb dX5_letter_164 hl (by decide) rfl (fun ls hl => ?_)
          refine lv_iconst (pc := 166) (v := (ii 0)) hx hb dX5_letter_166 (by decide) ?_
          refine lv_istore (pc := 167) (lv' := [(8, .int (ii 0)), (7, .int x1), (6, .int r7), (0, .ref x0), (1, .int x1), (2, .int x2), (3, .int x3), (4, .int x4), (5, .int x5)]) hx hb dX5_letter_167 hl (by decide) rfl (fun ls hl => ?_)
          exact wX5_letter_b169 X hr nf hf V (lv_sub hl [3, 6, 2, 1, 0] rfl)
        · replace hf := if_f hf c6
          exact wX5_letter_b134 X hr hf V (lv_sub hl [3, 4, 5] rfl)
    · replace hf := if_f hf c4
      refine lv_aload_n (pc := 58) hx hb dX5_letter_58 rfl (lv_at hl 0 rfl) ?_
      refine x_get (pc := 59) X V okX5 ht1 3 (by decide) q1524 (v := va_rf (R x0 3)) rfl dX5_letter_59 ?_
      refine x_topr ha2 ?_
      refine lv_bipush (pc := 62) (v := (ii 8)) hx hb dX5_letter_62 (by decide) ?_
      refine lv_iload (pc := 64) hx hb dX5_letter_64 (lv_at hl 6 rfl) ?_
      refine lv_iadd (pc := 66) hx hb dX5_letter_66 ?_
      replace hf := rA_s hf; obtain ⟨j9, hjj9, htj9, hij9, hf⟩ := hf
      refine x_iald (pc := 67) X V htj9 hij9 hjj9 dX5_letter_67 ?_
      refine lv_iload_n (pc := 68) hx hb dX5_letter_68 rfl (lv_at hl 2 rfl) ?_
      refine lv_icmp_ne (pc := 69) (tgt := 118) hx hb dX5_letter_69 (by decide) (fun c10 => ?_) (fun c10 => ?_)
      · replace hf := if_f hf c10
        replace hf := nm_s hf; obtain ⟨u11, hu11, hf⟩ := hf
        refine lv_iinc (pc := 118) (v := u11) (lv' := [(6, .int u11), (0, .ref x0), (1, .int x1), (2, .int x2), (3, .int x3), (4, .int x4), (5, .int x5)]) hx hb dX5_letter_118 hl (k := 6) rfl (by rw [hu11]; rfl) (by decide) rfl (fun ls hl => ?_)
        refine lv_goto (pc := 121) (tgt := 47) hx hb dX5_letter_121 (by decide) ?_
        exact ih hf V (lv_sub hl [1, 2, 3, 4, 5, 6, 0] rfl)
      · replace hf := if_t hf c10
        refine lv_aload_n (pc := 72) hx hb dX5_letter_72 rfl (lv_at hl 0 rfl) ?_
        refine lv_iload_n (pc := 73) hx hb dX5_letter_73 rfl (lv_at hl 1 rfl) ?_
        refine lv_aload_n (pc := 74) hx hb dX5_letter_74 rfl (lv_at hl 0 rfl) ?_
        refine lv_iload_n (pc := 75) hx hb dX5_letter_75 rfl (lv_at hl 1 rfl) ?_
        refine lv_iload (pc := 76) hx hb dX5_letter_76 (lv_at hl 6 rfl) ?_
        replace hf := bs hf; obtain ⟨r12, hk_13, hf⟩ := hf
        refine x_callV0 (pc := 78) (As := [.int x1, .int x6]) (rest := [.int x1, .ref x0]) X V (mX5_nearEnd l D dA s0 hk_13) okX5 ht1 q2104 q2106 qs103 q129 q2107 ⟨rfl, hsX5_nearEnd⟩ ⟨Nat.le_of_ble_eq_true rfl, Nat.le_of_ble_eq_true rfl⟩ rfl hl.1 rfl (Nat.le_of_ble_eq_true rfl) dX5_letter_78 ⟨Nat.zero_le _, Nat.zero_le _⟩ (fun H locs V => W.eq (g2 := F0 m 81 ls [.int r12, .int x1, .ref x0]) rfl ?_)
        replace hf := bs hf; obtain ⟨r14, hk_15, hf⟩ := hf
        refine x_callV0 (pc := 81) (As := [.int x1, .int r12]) (rest := []) X V (mX5_farOf l D dA s0 hk_15) okX5 ht1 q2039 q2041 qs98 q129 q2042 ⟨rfl, hsX5_farOf⟩ ⟨Nat.le_of_ble_eq_true rfl, Nat.le_of_ble_eq_true rfl⟩ rfl hl.1 rfl (Nat.le_of_ble_eq_true rfl) dX5_letter_81 ⟨Nat.zero_le _, Nat.zero_le _⟩ (fun H locs V => W.eq (g2 := F0 m 84 ls [.int r14]) rfl ?_)
        refine lv_istore (pc := 84) (lv' := [(7, .int r14), (0, .ref x0), (1, .int x1), (2, .int x2), (3, .int x3), (4, .int x4), (5, .int x5), (6, .int x6)]) hx hb dX5_letter_84 hl (by decide) rfl (fun ls hl => ?_)
        refine lv_iload (pc := 86) hx hb dX5_letter_86 (lv_at hl 0 rfl) ?_
        refine lv_iload (pc := 88) hx hb dX5_letter_88 (lv_at hl 5 rfl) ?_
        refine lv_icmp_ge (pc := 90) (tgt := 98) hx hb dX5_letter_90 (by decide) (fun c16 => ?_) (fun c16 => ?_)
        · replace hf := if_t hf c16
          refine lv_iload (pc := 98) hx hb dX5_letter_98 (lv_at hl 6 rfl) ?_
          exact wX5_letter_b100 X hr ih hf V (lv_sub hl [1, 2, 3, 4, 5, 7, 0] rfl)
        · replace hf := if_f hf c16
          refine lv_iload (pc := 93) hx hb dX5_letter_93 (lv_at hl 7 rfl) ?_
          refine lv_goto (pc := 95) (tgt := 100) hx hb dX5_letter_95 (by decide) ?_
          exact wX5_letter_b100 X hr ih hf V (lv_sub hl [1, 2, 3, 4, 5, 7, 0] rfl)
set_option maxHeartbeats 400000 in
set_option maxRecDepth 100000 in
theorem wX5_letter_e {nf : Nat} {p : Program} {l : Launch} {e : Env} {s : State} {m : MethodId} {args : Array Value} {below : List Frame} {meth : Method} {c : Code} {D : va_G} {dA : Nat → ClassId} {s0 : Nat} {T : xT} {N : xT} {Z : Nat} {I : xI} {L : xL} {R : xR} {H : Heap} {locs : List Loc} {ls : Array Slot} {x0 : Nat} {x1 : Int32} {x2 : Int32} {x3 : Int32} {ro : Int32} {Io : xI} (X : Cx D dA s0 p m c cX5_letter 10 s args RX5 meth) (hr : meth.sig.returnType = (some .int)) (hf : fX5_letter nf T N I R x0 x1 x2 x3 = some (ro, Io)) (V : Iv D dA s0 s T N Z I L R H locs) (hl : lv_has ls 10 [(0, .ref x0), (1, .int x1), (2, .int x2), (3, .int x3)]) : W p l e { frames := 2, cells := 0, slots := 0, locals := 47 } s m args below meth c H locs 0 0 (MQ below (xQ D dA s0 (some (.int ro)) T N Z Io L R) args s 0 0 (fun q => s0 ≤ q)) (F0 m 0 ls []) := by
  have hx := X.1.1
  have hb := X.1.2.1
  unfold fX5_letter at hf
  refine lv_aload_n (pc := 0) hx hb dX5_letter_0 rfl (lv_at hl 0 rfl) ?_
  refine lv_iconst (pc := 1) (v := (ii 0)) hx hb dX5_letter_1 (by decide) ?_
  replace hf := tg_s hf; obtain ⟨ht1, hf⟩ := hf
  replace hf := nm_s hf; obtain ⟨I2, hI2, hf⟩ := hf
  refine x_puti (pc := 2) X V okX5 (by decide) ht1 0 (by decide) q1521 (Or.inl rfl) hI2 (fun _ _ _ => rfl) rfl rfl dX5_letter_2 (fun H locs V => ?_)
  refine lv_iload_n (pc := 5) hx hb dX5_letter_5 rfl (lv_at hl 1 rfl) ?_
  replace hf := bs hf; obtain ⟨r3, hk_4, hf⟩ := hf
  refine x_callS0 (pc := 6) (As := [.int x1]) (rest := []) X V (mX5_isCorner l D dA s0 hk_4) q1732 q1733 q129 q1734 hsX5_isCorner ⟨Nat.le_of_ble_eq_true rfl, Nat.le_of_ble_eq_true rfl⟩ rfl hl.1 rfl (Nat.le_of_ble_eq_true rfl) dX5_letter_6 ⟨Nat.zero_le _, Nat.zero_le _⟩ (fun H locs V => W.eq (g2 := F0 m 9 ls [.int r3]) rfl ?_)
  refine lv_if_eq (pc := 9) (tgt := 30) hx hb dX5_letter_9 (by decide) (fun c5 => ?_) (fun c5 => ?_)
  · replace hf := if_t hf c5
    refine lv_iconst (pc := 30) (v := (-1 : Int32)) hx hb dX5_letter_30 (by decide) ?_
    cases hf
    exact x_iret (pc := 31) X V hr dX5_letter_31
  · replace hf := if_f hf c5
    refine lv_iload_n (pc := 12) hx hb dX5_letter_12 rfl (lv_at hl 2 rfl) ?_
    refine lv_i2l (pc := 13) hx hb dX5_letter_13 rfl ?_
    refine lv_lconst (pc := 14) (v := (jj 0)) hx hb dX5_letter_14 (by decide) ?_
    refine lv_ldc2 (pc := 15) (v := (jj 19)) hx hb X.1.2.2.2.1 (X.1.2.2.2.2 _ q2082) dX5_letter_15 ?_
    replace hf := bs hf; obtain ⟨r6, hk_7, hf⟩ := hf
    refine x_callS0 (pc := 18) (As := [.long ((x2).toInt64), .long (jj 0), .long (jj 19)]) (rest := []) X V (mX5_in l D dA s0 hk_7) q1713 q1714 q129 q1715 hsX5_in ⟨Nat.le_of_ble_eq_true rfl, Nat.le_of_ble_eq_true rfl⟩ rfl hl.1 rfl (Nat.le_of_ble_eq_true rfl) dX5_letter_18 ⟨Nat.zero_le _, Nat.zero_le _⟩ (fun H locs V => W.eq (g2 := F0 m 21 ls [.int r6]) rfl ?_)
    refine lv_if_eq (pc := 21) (tgt := 30) hx hb dX5_letter_21 (by decide) (fun c8 => ?_) (fun c8 => ?_)
    · replace hf := if_t hf c8
      refine lv_iconst (pc := 30) (v := (-1 : Int32)) hx hb dX5_letter_30 (by decide) ?_
      cases hf
      exact x_iret (pc := 31) X V hr dX5_letter_31
    · replace hf := if_f hf c8
      refine lv_iload_n (pc := 24) hx hb dX5_letter_24 rfl (lv_at hl 3 rfl) ?_
      refine lv_bipush (pc := 25) (v := (-2 : Int32)) hx hb dX5_letter_25 (by decide) ?_
      refine lv_icmp_ge (pc := 27) (tgt := 32) hx hb dX5_letter_27 (by decide) (fun c9 => ?_) (fun c9 => ?_)
      · replace hf := if_t hf c9
        refine lv_aload_n (pc := 32) hx hb dX5_letter_32 rfl (lv_at hl 0 rfl) ?_
        replace hf := bs hf; obtain ⟨I10, hk_11, hf⟩ := hf
        refine x_callV0 (pc := 33) (As := []) (rest := []) X V (mX5_layFar l D dA s0 hk_11) okX5 ht1 q2034 q2036 qs97 q129 q2037 ⟨rfl, hsX5_layFar⟩ ⟨Nat.le_of_ble_eq_true rfl, Nat.le_of_ble_eq_true rfl⟩ rfl hl.1 rfl (Nat.le_of_ble_eq_true rfl) dX5_letter_33 ⟨Nat.zero_le _, Nat.zero_le _⟩ (fun H locs V => W.eq (g2 := F0 m 36 ls []) rfl ?_)
        refine lv_ldcw (pc := 36) (v := (ii 100000000)) hx hb X.1.2.2.2.1 (X.1.2.2.2.2 _ q2038) dX5_letter_36 ?_
        refine lv_istore (pc := 39) (lv' := [(4, .int (ii 100000000)), (0, .ref x0), (1, .int x1), (2, .int x2), (3, .int x3)]) hx hb dX5_letter_39 hl (by decide) rfl (fun ls hl => ?_)
        refine lv_iconst (pc := 41) (v := (-1 : Int32)) hx hb dX5_letter_41 (by decide) ?_
        refine lv_istore (pc := 42) (lv' := [(5, .int (-1 : Int32)), (4, .int (ii 100000000)), (0, .ref x0), (1, .int x1), (2, .int x2), (3, .int x3)]) hx hb dX5_letter_42 hl (by decide) rfl (fun ls hl => ?_)
        refine lv_iconst (pc := 44) (v := (ii 0)) hx hb dX5_letter_44 (by decide) ?_
        refine lv_istore (pc := 45) (lv' := [(6, .int (ii 0)), (5, .int (-1 : Int32)), (4, .int (ii 100000000)), (0, .ref x0), (1, .int x1), (2, .int x2), (3, .int x3)]) hx hb dX5_letter_45 hl (by decide) rfl (fun ls hl => ?_)
        exact wX5_letter_b47 X hr nf hf V (lv_sub hl [3, 4, 5, 6, 2, 1, 0] rfl)
      · replace hf := if_f hf c9
        refine lv_iconst (pc := 30) (v := (-1 : Int32)) hx hb dX5_letter_30 (by decide) ?_
        cases hf
        exact x_iret (pc := 31) X V hr dX5_letter_31
theorem mX5_letter {nf : Nat} (l : Launch) (D : va_G) (dA : Nat → ClassId) (s0 : Nat) {T : xT} {N : xT} {Z : Nat} {I : xI} {L : xL} {R : xR} {x0 : Nat} {x1 : Int32} {x2 : Int32} {x3 : Int32} {ro : Int32} {Io : xI} (hf : fX5_letter nf T N I R x0 x1 x2 x3 = some (ro, Io)) : XMet l D dA s0 yX5_letter (ws_ yX5_letter cX5_letter 10 ((some .int))) (2) (47) [.ref x0, .int x1, .int x2, .int x3] T N Z I L R (some (.int ro)) T N Z Io L R 0 0 :=
  x_start (own := RX5) rfl (by decide) (Nat.le_of_ble_eq_true rfl) (lv := [(0, .ref x0), (1, .int x1), (2, .int x2), (3, .int x3)]) rfl (fun p e s m below meth c ls X hr hini V hl => wX5_letter_e X hr hf V hl)
set_option maxHeartbeats 400000 in
set_option maxRecDepth 100000 in
theorem wX5_nameAhead_b4 {nf : Nat} {p : Program} {l : Launch} {e : Env} {s : State} {m : MethodId} {args : Array Value} {below : List Frame} {meth : Method} {c : Code} {D : va_G} {dA : Nat → ClassId} {s0 : Nat} {T : xT} {N : xT} {Z : Nat} {I : xI} {L : xL} {R : xR}  {ro : Int32} (X : Cx D dA s0 p m c cX5_nameAhead 4 s args RX5 meth) (hr : meth.sig.returnType = (some .int))   (k : Nat) : ∀ {x0 : Nat} {x1 : Int32} {x2 : Int32} {x3 : Int32} {H : Heap} {locs : List Loc} {ls : Array Slot} , fX5_nameAhead_b4 nf T N I R k x0 x1 x2 x3 = some ro → Iv D dA s0 s T N Z I L R H locs → lv_has ls 4 [(0, .ref x0), (1, .int x1), (2, .int x2), (3, .int x3)] → W p l e { frames := 0, cells := 0, slots := 0, locals := 0 } s m args below meth c H locs 0 0 (MQ below (xQ D dA s0 (some (.int ro)) T N Z I L R) args s 0 0 (fun q => s0 ≤ q)) (F0 m 4 ls []) := by
  have hx := X.1.1
  have hb := X.1.2.1
  induction k with
  | zero =>
    intro x0 x1 x2 x3 H locs ls hf V hl
    exact absurd (show none = some _ from hf) (fun q => nomatch q)
  | succ k ih =>
    intro x0 x1 x2 x3 H locs ls hf V hl
    rw [fX5_nameAhead_b4] at hf
    refine lv_iload_n (pc := 4) hx hb dX5_nameAhead_4 rfl (lv_at hl 3 rfl) ?_
    refine lv_iload_n (pc := 5) hx hb dX5_nameAhead_5 rfl (lv_at hl 1 rfl) ?_
    refine lv_icmp_ge (pc := 6) (tgt := 38) hx hb dX5_nameAhead_6 (by decide) (fun c1 => ?_) (fun c1 => ?_)
    · replace hf := if_t hf c1
      refine lv_iload_n (pc := 38) hx hb dX5_nameAhead_38 rfl (lv_at hl 2 rfl) ?_
      cases hf
      exact x_iret (pc := 39) X V hr dX5_nameAhead_39
    · replace hf := if_f hf c1
      refine lv_aload_n (pc := 9) hx hb dX5_nameAhead_9 rfl (lv_at hl 0 rfl) ?_
      replace hf := tg_s hf; obtain ⟨ht2, hf⟩ := hf
      replace hf := bs hf; obtain ⟨a3, ha3, hf⟩ := hf
      refine x_get (pc := 10) X V okX5 ht2 45 (by decide) q1566 (v := va_rf (R x0 45)) rfl dX5_nameAhead_10 ?_
      refine x_topr ha3 ?_
      refine lv_iload_n (pc := 13) hx hb dX5_nameAhead_13 rfl (lv_at hl 3 rfl) ?_
      replace hf := rA_s hf; obtain ⟨j4, hjj4, htj4, hij4, hf⟩ := hf
      refine x_iald (pc := 14) X V htj4 hij4 hjj4 dX5_nameAhead_14 ?_
      refine lv_iload_n (pc := 15) hx hb dX5_nameAhead_15 rfl (lv_at hl 2 rfl) ?_
      refine lv_icmp_lt (pc := 16) (tgt := 30) hx hb dX5_nameAhead_16 (by decide) (fun c5 => ?_) (fun c5 => ?_)
      · replace hf := if_t hf c5
        refine lv_iload_n (pc := 30) hx hb dX5_nameAhead_30 rfl (lv_at hl 2 rfl) ?_
        refine lv_istore_n (pc := 31) (lv' := [(2, .int x2), (0, .ref x0), (1, .int x1), (3, .int x3)]) hx hb dX5_nameAhead_31 rfl hl (by decide) rfl (fun ls hl => ?_)
        replace hf := nm_s hf; obtain ⟨u6, hu6, hf⟩ := hf
        refine lv_iinc (pc := 32) (v := u6) (lv' := [(3, .int u6), (2, .int x2), (0, .ref x0), (1, .int x1)]) hx hb dX5_nameAhead_32 hl (k := 3) rfl (by rw [hu6]; rfl) (by decide) rfl (fun ls hl => ?_)
        refine lv_goto (pc := 35) (tgt := 4) hx hb dX5_nameAhead_35 (by decide) ?_
        exact ih hf V (lv_sub hl [2, 3, 1, 0] rfl)
      · replace hf := if_f hf c5
        refine lv_aload_n (pc := 19) hx hb dX5_nameAhead_19 rfl (lv_at hl 0 rfl) ?_
        refine x_get (pc := 20) X V okX5 ht2 45 (by decide) q1566 (v := va_rf (R x0 45)) rfl dX5_nameAhead_20 ?_
        refine x_topr ha3 ?_
        refine lv_iload_n (pc := 23) hx hb dX5_nameAhead_23 rfl (lv_at hl 3 rfl) ?_
        refine x_iald (pc := 24) X V htj4 hij4 hjj4 dX5_nameAhead_24 ?_
        refine lv_iconst (pc := 25) (v := (ii 1)) hx hb dX5_nameAhead_25 (by decide) ?_
        refine lv_iadd (pc := 26) hx hb dX5_nameAhead_26 ?_
        refine lv_goto (pc := 27) (tgt := 31) hx hb dX5_nameAhead_27 (by decide) ?_
        replace hf := nm_s hf; obtain ⟨u7, hu7, hf⟩ := hf
        refine x_topi hu7 ?_
        refine lv_istore_n (pc := 31) (lv' := [(2, .int u7), (0, .ref x0), (1, .int x1), (3, .int x3)]) hx hb dX5_nameAhead_31 rfl hl (by decide) rfl (fun ls hl => ?_)
        replace hf := nm_s hf; obtain ⟨u8, hu8, hf⟩ := hf
        refine lv_iinc (pc := 32) (v := u8) (lv' := [(3, .int u8), (2, .int u7), (0, .ref x0), (1, .int x1)]) hx hb dX5_nameAhead_32 hl (k := 3) rfl (by rw [hu8]; rfl) (by decide) rfl (fun ls hl => ?_)
        refine lv_goto (pc := 35) (tgt := 4) hx hb dX5_nameAhead_35 (by decide) ?_
        exact ih hf V (lv_sub hl [2, 3, 1, 0] rfl)
set_option maxHeartbeats 400000 in
set_option maxRecDepth 100000 in
theorem wX5_nameAhead_e {nf : Nat} {p : Program} {l : Launch} {e : Env} {s : State} {m : MethodId} {args : Array Value} {below : List Frame} {meth : Method} {c : Code} {D : va_G} {dA : Nat → ClassId} {s0 : Nat} {T : xT} {N : xT} {Z : Nat} {I : xI} {L : xL} {R : xR} {H : Heap} {locs : List Loc} {ls : Array Slot} {x0 : Nat} {x1 : Int32} {ro : Int32} (X : Cx D dA s0 p m c cX5_nameAhead 4 s args RX5 meth) (hr : meth.sig.returnType = (some .int)) (hf : fX5_nameAhead nf T N I R x0 x1 = some ro) (V : Iv D dA s0 s T N Z I L R H locs) (hl : lv_has ls 4 [(0, .ref x0), (1, .int x1)]) : W p l e { frames := 0, cells := 0, slots := 0, locals := 0 } s m args below meth c H locs 0 0 (MQ below (xQ D dA s0 (some (.int ro)) T N Z I L R) args s 0 0 (fun q => s0 ≤ q)) (F0 m 0 ls []) := by
  have hx := X.1.1
  have hb := X.1.2.1
  unfold fX5_nameAhead at hf
  refine lv_iconst (pc := 0) (v := (ii 0)) hx hb dX5_nameAhead_0 (by decide) ?_
  refine lv_istore_n (pc := 1) (lv' := [(2, .int (ii 0)), (0, .ref x0), (1, .int x1)]) hx hb dX5_nameAhead_1 rfl hl (by decide) rfl (fun ls hl => ?_)
  refine lv_iconst (pc := 2) (v := (ii 0)) hx hb dX5_nameAhead_2 (by decide) ?_
  refine lv_istore_n (pc := 3) (lv' := [(3, .int (ii 0)), (2, .int (ii 0)), (0, .ref x0), (1, .int x1)]) hx hb dX5_nameAhead_3 rfl hl (by decide) rfl (fun ls hl => ?_)
  exact wX5_nameAhead_b4 X hr nf hf V (lv_sub hl [2, 3, 1, 0] rfl)
theorem mX5_nameAhead {nf : Nat} (l : Launch) (D : va_G) (dA : Nat → ClassId) (s0 : Nat) {T : xT} {N : xT} {Z : Nat} {I : xI} {L : xL} {R : xR} {x0 : Nat} {x1 : Int32} {ro : Int32} (hf : fX5_nameAhead nf T N I R x0 x1 = some ro) : XMet l D dA s0 yX5_nameAhead (ws_ yX5_nameAhead cX5_nameAhead 4 ((some .int))) (0) (0) [.ref x0, .int x1] T N Z I L R (some (.int ro)) T N Z I L R 0 0 :=
  x_start (own := RX5) rfl (by decide) (Nat.le_of_ble_eq_true rfl) (lv := [(0, .ref x0), (1, .int x1)]) rfl (fun p e s m below meth c ls X hr hini V hl => wX5_nameAhead_e X hr hf V hl)
set_option maxHeartbeats 400000 in
set_option maxRecDepth 100000 in
theorem wX5_haveCorner_e {p : Program} {l : Launch} {e : Env} {s : State} {m : MethodId} {args : Array Value} {below : List Frame} {meth : Method} {c : Code} {D : va_G} {dA : Nat → ClassId} {s0 : Nat} {T : xT} {N : xT} {Z : Nat} {I : xI} {L : xL} {R : xR} {H : Heap} {locs : List Loc} {ls : Array Slot} {x0 : Nat} {x1 : Int32} {x2 : Int32} {ro : Int32} (X : Cx D dA s0 p m c cX5_haveCorner 3 s args RX5 meth) (hr : meth.sig.returnType = (some .boolean)) (hf : fX5_haveCorner T N I R x0 x1 x2 = some ro) (V : Iv D dA s0 s T N Z I L R H locs) (hl : lv_has ls 3 [(0, .ref x0), (1, .int x1), (2, .int x2)]) : W p l e { frames := 1, cells := 0, slots := 0, locals := 22 } s m args below meth c H locs 0 0 (MQ below (xQ D dA s0 (some (.int ro)) T N Z I L R) args s 0 0 (fun q => s0 ≤ q)) (F0 m 0 ls []) := by
  have hx := X.1.1
  have hb := X.1.2.1
  unfold fX5_haveCorner at hf
  refine lv_aload_n (pc := 0) hx hb dX5_haveCorner_0 rfl (lv_at hl 0 rfl) ?_
  refine lv_iload_n (pc := 1) hx hb dX5_haveCorner_1 rfl (lv_at hl 1 rfl) ?_
  refine lv_aload_n (pc := 2) hx hb dX5_haveCorner_2 rfl (lv_at hl 0 rfl) ?_
  replace hf := tg_s hf; obtain ⟨ht1, hf⟩ := hf
  replace hf := bs hf; obtain ⟨a2, ha2, hf⟩ := hf
  refine x_get (pc := 3) X V okX5 ht1 3 (by decide) q1524 (v := va_rf (R x0 3)) rfl dX5_haveCorner_3 ?_
  refine x_topr ha2 ?_
  refine lv_bipush (pc := 6) (v := (ii 26)) hx hb dX5_haveCorner_6 (by decide) ?_
  refine lv_iload_n (pc := 8) hx hb dX5_haveCorner_8 rfl (lv_at hl 2 rfl) ?_
  refine lv_iadd (pc := 9) hx hb dX5_haveCorner_9 ?_
  replace hf := rA_s hf; obtain ⟨j3, hjj3, htj3, hij3, hf⟩ := hf
  refine x_iald (pc := 10) X V htj3 hij3 hjj3 dX5_haveCorner_10 ?_
  replace hf := bs hf; obtain ⟨r4, hk_5, hf⟩ := hf
  refine x_callV0 (pc := 11) (As := [.int x1, .int (I a2 j3)]) (rest := []) X V (mX5_ends l D dA s0 hk_5) okX5 ht1 q1792 q1794 qs58 q129 q1795 ⟨rfl, hsX5_ends⟩ ⟨Nat.le_of_ble_eq_true rfl, Nat.le_of_ble_eq_true rfl⟩ rfl hl.1 rfl (Nat.le_of_ble_eq_true rfl) dX5_haveCorner_11 ⟨Nat.zero_le _, Nat.zero_le _⟩ (fun H locs V => W.eq (g2 := F0 m 14 ls [.int r4]) rfl ?_)
  refine lv_if_ne (pc := 14) (tgt := 34) hx hb dX5_haveCorner_14 (by decide) (fun c6 => ?_) (fun c6 => ?_)
  · replace hf := if_f hf c6
    refine lv_iconst (pc := 34) (v := (ii 1)) hx hb dX5_haveCorner_34 (by decide) ?_
    refine lv_goto (pc := 35) (tgt := 39) hx hb dX5_haveCorner_35 (by decide) ?_
    cases hf
    exact x_zret (pc := 39) X V hr (by decide) dX5_haveCorner_39
  · replace hf := if_t hf c6
    refine lv_aload_n (pc := 17) hx hb dX5_haveCorner_17 rfl (lv_at hl 0 rfl) ?_
    refine lv_iload_n (pc := 18) hx hb dX5_haveCorner_18 rfl (lv_at hl 1 rfl) ?_
    refine lv_aload_n (pc := 19) hx hb dX5_haveCorner_19 rfl (lv_at hl 0 rfl) ?_
    refine x_get (pc := 20) X V okX5 ht1 3 (by decide) q1524 (v := va_rf (R x0 3)) rfl dX5_haveCorner_20 ?_
    refine x_topr ha2 ?_
    refine lv_bipush (pc := 23) (v := (ii 36)) hx hb dX5_haveCorner_23 (by decide) ?_
    refine lv_iload_n (pc := 25) hx hb dX5_haveCorner_25 rfl (lv_at hl 2 rfl) ?_
    refine lv_iadd (pc := 26) hx hb dX5_haveCorner_26 ?_
    replace hf := rA_s hf; obtain ⟨j7, hjj7, htj7, hij7, hf⟩ := hf
    refine x_iald (pc := 27) X V htj7 hij7 hjj7 dX5_haveCorner_27 ?_
    replace hf := bs hf; obtain ⟨r8, hk_9, hf⟩ := hf
    refine x_callV0 (pc := 28) (As := [.int x1, .int (I a2 j7)]) (rest := []) X V (mX5_ends l D dA s0 hk_9) okX5 ht1 q1792 q1794 qs58 q129 q1795 ⟨rfl, hsX5_ends⟩ ⟨Nat.le_of_ble_eq_true rfl, Nat.le_of_ble_eq_true rfl⟩ rfl hl.1 rfl (Nat.le_of_ble_eq_true rfl) dX5_haveCorner_28 ⟨Nat.zero_le _, Nat.zero_le _⟩ (fun H locs V => W.eq (g2 := F0 m 31 ls [.int r8]) rfl ?_)
    refine lv_if_eq (pc := 31) (tgt := 38) hx hb dX5_haveCorner_31 (by decide) (fun c10 => ?_) (fun c10 => ?_)
    · replace hf := if_t hf c10
      refine lv_iconst (pc := 38) (v := (ii 0)) hx hb dX5_haveCorner_38 (by decide) ?_
      cases hf
      exact x_zret (pc := 39) X V hr (by decide) dX5_haveCorner_39
    · replace hf := if_f hf c10
      refine lv_iconst (pc := 34) (v := (ii 1)) hx hb dX5_haveCorner_34 (by decide) ?_
      refine lv_goto (pc := 35) (tgt := 39) hx hb dX5_haveCorner_35 (by decide) ?_
      cases hf
      exact x_zret (pc := 39) X V hr (by decide) dX5_haveCorner_39
theorem mX5_haveCorner (l : Launch) (D : va_G) (dA : Nat → ClassId) (s0 : Nat) {T : xT} {N : xT} {Z : Nat} {I : xI} {L : xL} {R : xR} {x0 : Nat} {x1 : Int32} {x2 : Int32} {ro : Int32} (hf : fX5_haveCorner T N I R x0 x1 x2 = some ro) : XMet l D dA s0 yX5_haveCorner (ws_ yX5_haveCorner cX5_haveCorner 3 ((some .boolean))) (1) (22) [.ref x0, .int x1, .int x2] T N Z I L R (some (.int ro)) T N Z I L R 0 0 :=
  x_start (own := RX5) rfl (by decide) (Nat.le_of_ble_eq_true rfl) (lv := [(0, .ref x0), (1, .int x1), (2, .int x2)]) rfl (fun p e s m below meth c ls X hr hini V hl => wX5_haveCorner_e X hr hf V hl)
set_option maxHeartbeats 400000 in
set_option maxRecDepth 100000 in
theorem wX5_fitsName_b4 {nf : Nat} {p : Program} {l : Launch} {e : Env} {s : State} {m : MethodId} {args : Array Value} {below : List Frame} {meth : Method} {c : Code} {D : va_G} {dA : Nat → ClassId} {s0 : Nat} {T : xT} {N : xT} {Z : Nat} {I : xI} {L : xL} {R : xR}  {ro : Int32} (X : Cx D dA s0 p m c cX5_fitsName 4 s args RX5 meth) (hr : meth.sig.returnType = (some .boolean))   (k : Nat) : ∀ {x0 : Nat} {x1 : Int32} {x2 : Int32} {x3 : Int32} {H : Heap} {locs : List Loc} {ls : Array Slot} , fX5_fitsName_b4 nf T N I R k x0 x1 x2 x3 = some ro → Iv D dA s0 s T N Z I L R H locs → lv_has ls 4 [(0, .ref x0), (1, .int x1), (2, .int x2), (3, .int x3)] → W p l e { frames := 2, cells := 0, slots := 0, locals := 44 } s m args below meth c H locs 0 0 (MQ below (xQ D dA s0 (some (.int ro)) T N Z I L R) args s 0 0 (fun q => s0 ≤ q)) (F0 m 4 ls []) := by
  have hx := X.1.1
  have hb := X.1.2.1
  induction k with
  | zero =>
    intro x0 x1 x2 x3 H locs ls hf V hl
    exact absurd (show none = some _ from hf) (fun q => nomatch q)
  | succ k ih =>
    intro x0 x1 x2 x3 H locs ls hf V hl
    rw [fX5_fitsName_b4] at hf
    refine lv_iload_n (pc := 4) hx hb dX5_fitsName_4 rfl (lv_at hl 3 rfl) ?_
    refine lv_iload_n (pc := 5) hx hb dX5_fitsName_5 rfl (lv_at hl 1 rfl) ?_
    refine lv_icmp_ge (pc := 6) (tgt := 49) hx hb dX5_fitsName_6 (by decide) (fun c1 => ?_) (fun c1 => ?_)
    · replace hf := if_t hf c1
      refine lv_iload_n (pc := 49) hx hb dX5_fitsName_49 rfl (lv_at hl 2 rfl) ?_
      replace hf := chk_s hf; obtain ⟨hz2, hf⟩ := hf
      cases hf
      exact x_zret (pc := 50) X V hr hz2 dX5_fitsName_50
    · replace hf := if_f hf c1
      refine lv_iload_n (pc := 9) hx hb dX5_fitsName_9 rfl (lv_at hl 2 rfl) ?_
      refine lv_if_eq (pc := 10) (tgt := 41) hx hb dX5_fitsName_10 (by decide) (fun c3 => ?_) (fun c3 => ?_)
      · replace hf := if_t hf c3
        refine lv_iconst (pc := 41) (v := (ii 0)) hx hb dX5_fitsName_41 (by decide) ?_
        refine lv_istore_n (pc := 42) (lv' := [(2, .int (ii 0)), (0, .ref x0), (1, .int x1), (3, .int x3)]) hx hb dX5_fitsName_42 rfl hl (by decide) rfl (fun ls hl => ?_)
        replace hf := nm_s hf; obtain ⟨u4, hu4, hf⟩ := hf
        refine lv_iinc (pc := 43) (v := u4) (lv' := [(3, .int u4), (2, .int (ii 0)), (0, .ref x0), (1, .int x1)]) hx hb dX5_fitsName_43 hl (k := 3) rfl (by rw [hu4]; rfl) (by decide) rfl (fun ls hl => ?_)
        refine lv_goto (pc := 46) (tgt := 4) hx hb dX5_fitsName_46 (by decide) ?_
        exact ih hf V (lv_sub hl [2, 3, 1, 0] rfl)
      · replace hf := if_f hf c3
        refine lv_aload_n (pc := 13) hx hb dX5_fitsName_13 rfl (lv_at hl 0 rfl) ?_
        replace hf := tg_s hf; obtain ⟨ht5, hf⟩ := hf
        replace hf := bs hf; obtain ⟨a6, ha6, hf⟩ := hf
        refine x_get (pc := 14) X V okX5 ht5 45 (by decide) q1566 (v := va_rf (R x0 45)) rfl dX5_fitsName_14 ?_
        refine x_topr ha6 ?_
        refine lv_iload_n (pc := 17) hx hb dX5_fitsName_17 rfl (lv_at hl 3 rfl) ?_
        replace hf := rA_s hf; obtain ⟨j7, hjj7, htj7, hij7, hf⟩ := hf
        refine x_iald (pc := 18) X V htj7 hij7 hjj7 dX5_fitsName_18 ?_
        refine lv_aload_n (pc := 19) hx hb dX5_fitsName_19 rfl (lv_at hl 0 rfl) ?_
        refine x_get (pc := 20) X V okX5 ht5 45 (by decide) q1566 (v := va_rf (R x0 45)) rfl dX5_fitsName_20 ?_
        refine x_topr ha6 ?_
        refine lv_iload_n (pc := 23) hx hb dX5_fitsName_23 rfl (lv_at hl 1 rfl) ?_
        replace hf := rA_s hf; obtain ⟨j8, hjj8, htj8, hij8, hf⟩ := hf
        refine x_iald (pc := 24) X V htj8 hij8 hjj8 dX5_fitsName_24 ?_
        refine lv_icmp_ne (pc := 25) (tgt := 37) hx hb dX5_fitsName_25 (by decide) (fun c9 => ?_) (fun c9 => ?_)
        · replace hf := if_f hf c9
          refine lv_iconst (pc := 37) (v := (ii 1)) hx hb dX5_fitsName_37 (by decide) ?_
          refine lv_goto (pc := 38) (tgt := 42) hx hb dX5_fitsName_38 (by decide) ?_
          refine lv_istore_n (pc := 42) (lv' := [(2, .int (ii 1)), (0, .ref x0), (1, .int x1), (3, .int x3)]) hx hb dX5_fitsName_42 rfl hl (by decide) rfl (fun ls hl => ?_)
          replace hf := nm_s hf; obtain ⟨u10, hu10, hf⟩ := hf
          refine lv_iinc (pc := 43) (v := u10) (lv' := [(3, .int u10), (2, .int (ii 1)), (0, .ref x0), (1, .int x1)]) hx hb dX5_fitsName_43 hl (k := 3) rfl (by rw [hu10]; rfl) (by decide) rfl (fun ls hl => ?_)
          refine lv_goto (pc := 46) (tgt := 4) hx hb dX5_fitsName_46 (by decide) ?_
          exact ih hf V (lv_sub hl [2, 3, 1, 0] rfl)
        · replace hf := if_t hf c9
          refine lv_aload_n (pc := 28) hx hb dX5_fitsName_28 rfl (lv_at hl 0 rfl) ?_
          refine lv_iload_n (pc := 29) hx hb dX5_fitsName_29 rfl (lv_at hl 3 rfl) ?_
          refine lv_iload_n (pc := 30) hx hb dX5_fitsName_30 rfl (lv_at hl 1 rfl) ?_
          replace hf := bs hf; obtain ⟨r11, hk_12, hf⟩ := hf
          refine x_callV0 (pc := 31) (As := [.int x3, .int x1]) (rest := []) X V (mX5_haveCorner l D dA s0 hk_12) okX5 ht5 q2128 q2130 qs108 q129 q2131 ⟨rfl, hsX5_haveCorner⟩ ⟨Nat.le_of_ble_eq_true rfl, Nat.le_of_ble_eq_true rfl⟩ rfl hl.1 rfl (Nat.le_of_ble_eq_true rfl) dX5_fitsName_31 ⟨Nat.zero_le _, Nat.zero_le _⟩ (fun H locs V => W.eq (g2 := F0 m 34 ls [.int r11]) rfl ?_)
          refine lv_if_ne (pc := 34) (tgt := 41) hx hb dX5_fitsName_34 (by decide) (fun c13 => ?_) (fun c13 => ?_)
          · replace hf := if_f hf c13
            refine lv_iconst (pc := 41) (v := (ii 0)) hx hb dX5_fitsName_41 (by decide) ?_
            refine lv_istore_n (pc := 42) (lv' := [(2, .int (ii 0)), (0, .ref x0), (1, .int x1), (3, .int x3)]) hx hb dX5_fitsName_42 rfl hl (by decide) rfl (fun ls hl => ?_)
            replace hf := nm_s hf; obtain ⟨u14, hu14, hf⟩ := hf
            refine lv_iinc (pc := 43) (v := u14) (lv' := [(3, .int u14), (2, .int (ii 0)), (0, .ref x0), (1, .int x1)]) hx hb dX5_fitsName_43 hl (k := 3) rfl (by rw [hu14]; rfl) (by decide) rfl (fun ls hl => ?_)
            refine lv_goto (pc := 46) (tgt := 4) hx hb dX5_fitsName_46 (by decide) ?_
            exact ih hf V (lv_sub hl [2, 3, 1, 0] rfl)
          · replace hf := if_t hf c13
            refine lv_iconst (pc := 37) (v := (ii 1)) hx hb dX5_fitsName_37 (by decide) ?_
            refine lv_goto (pc := 38) (tgt := 42) hx hb dX5_fitsName_38 (by decide) ?_
            refine lv_istore_n (pc := 42) (lv' := [(2, .int (ii 1)), (0, .ref x0), (1, .int x1), (3, .int x3)]) hx hb dX5_fitsName_42 rfl hl (by decide) rfl (fun ls hl => ?_)
            replace hf := nm_s hf; obtain ⟨u15, hu15, hf⟩ := hf
            refine lv_iinc (pc := 43) (v := u15) (lv' := [(3, .int u15), (2, .int (ii 1)), (0, .ref x0), (1, .int x1)]) hx hb dX5_fitsName_43 hl (k := 3) rfl (by rw [hu15]; rfl) (by decide) rfl (fun ls hl => ?_)
            refine lv_goto (pc := 46) (tgt := 4) hx hb dX5_fitsName_46 (by decide) ?_
            exact ih hf V (lv_sub hl [2, 3, 1, 0] rfl)
set_option maxHeartbeats 400000 in
set_option maxRecDepth 100000 in
theorem wX5_fitsName_e {nf : Nat} {p : Program} {l : Launch} {e : Env} {s : State} {m : MethodId} {args : Array Value} {below : List Frame} {meth : Method} {c : Code} {D : va_G} {dA : Nat → ClassId} {s0 : Nat} {T : xT} {N : xT} {Z : Nat} {I : xI} {L : xL} {R : xR} {H : Heap} {locs : List Loc} {ls : Array Slot} {x0 : Nat} {x1 : Int32} {ro : Int32} (X : Cx D dA s0 p m c cX5_fitsName 4 s args RX5 meth) (hr : meth.sig.returnType = (some .boolean)) (hf : fX5_fitsName nf T N I R x0 x1 = some ro) (V : Iv D dA s0 s T N Z I L R H locs) (hl : lv_has ls 4 [(0, .ref x0), (1, .int x1)]) : W p l e { frames := 2, cells := 0, slots := 0, locals := 44 } s m args below meth c H locs 0 0 (MQ below (xQ D dA s0 (some (.int ro)) T N Z I L R) args s 0 0 (fun q => s0 ≤ q)) (F0 m 0 ls []) := by
  have hx := X.1.1
  have hb := X.1.2.1
  unfold fX5_fitsName at hf
  refine lv_iconst (pc := 0) (v := (ii 1)) hx hb dX5_fitsName_0 (by decide) ?_
  refine lv_istore_n (pc := 1) (lv' := [(2, .int (ii 1)), (0, .ref x0), (1, .int x1)]) hx hb dX5_fitsName_1 rfl hl (by decide) rfl (fun ls hl => ?_)
  refine lv_iconst (pc := 2) (v := (ii 0)) hx hb dX5_fitsName_2 (by decide) ?_
  refine lv_istore_n (pc := 3) (lv' := [(3, .int (ii 0)), (2, .int (ii 1)), (0, .ref x0), (1, .int x1)]) hx hb dX5_fitsName_3 rfl hl (by decide) rfl (fun ls hl => ?_)
  exact wX5_fitsName_b4 X hr nf hf V (lv_sub hl [2, 3, 1, 0] rfl)
theorem mX5_fitsName {nf : Nat} (l : Launch) (D : va_G) (dA : Nat → ClassId) (s0 : Nat) {T : xT} {N : xT} {Z : Nat} {I : xI} {L : xL} {R : xR} {x0 : Nat} {x1 : Int32} {ro : Int32} (hf : fX5_fitsName nf T N I R x0 x1 = some ro) : XMet l D dA s0 yX5_fitsName (ws_ yX5_fitsName cX5_fitsName 4 ((some .boolean))) (2) (44) [.ref x0, .int x1] T N Z I L R (some (.int ro)) T N Z I L R 0 0 :=
  x_start (own := RX5) rfl (by decide) (Nat.le_of_ble_eq_true rfl) (lv := [(0, .ref x0), (1, .int x1)]) rfl (fun p e s m below meth c ls X hr hini V hl => wX5_fitsName_e X hr hf V hl)
set_option maxHeartbeats 400000 in
set_option maxRecDepth 100000 in
theorem wX5_findNames_b86 {nf : Nat} {p : Program} {l : Launch} {e : Env} {s : State} {m : MethodId} {args : Array Value} {below : List Frame} {meth : Method} {c : Code} {D : va_G} {dA : Nat → ClassId} {s0 : Nat} {T : xT} {N : xT} {Z : Nat} {I : xI} {L : xL} {R : xR} {H : Heap} {locs : List Loc} {ls : Array Slot}  {x2 : Int32} {x3 : Int32} {ro : Int32} {Io : xI} (X : Cx D dA s0 p m c cX5_findNames 4 s args RX5 meth) (hr : meth.sig.returnType = (some .boolean))   (hf : fX5_findNames_b86 nf T N I R x2 x3 = some (ro, Io)) (V : Iv D dA s0 s T N Z I L R H locs) (hl : lv_has ls 4 [(2, .int x2), (3, .int x3)]) : W p l e { frames := 3, cells := 0, slots := 0, locals := 67 } s m args below meth c H locs 0 0 (MQ below (xQ D dA s0 (some (.int ro)) T N Z Io L R) args s 0 0 (fun q => s0 ≤ q)) (F0 m 86 ls []) := by
  have hx := X.1.1
  have hb := X.1.2.1
  unfold fX5_findNames_b86 at hf
  refine lv_iload_n (pc := 86) hx hb dX5_findNames_86 rfl (lv_at hl 1 rfl) ?_
  refine lv_iload_n (pc := 87) hx hb dX5_findNames_87 rfl (lv_at hl 0 rfl) ?_
  refine lv_icmp_ne (pc := 88) (tgt := 95) hx hb dX5_findNames_88 (by decide) (fun c1 => ?_) (fun c1 => ?_)
  · replace hf := if_f hf c1
    refine lv_iconst (pc := 95) (v := (ii 0)) hx hb dX5_findNames_95 (by decide) ?_
    cases hf
    exact x_zret (pc := 96) X V hr (by decide) dX5_findNames_96
  · replace hf := if_t hf c1
    refine lv_iconst (pc := 91) (v := (ii 1)) hx hb dX5_findNames_91 (by decide) ?_
    refine lv_goto (pc := 92) (tgt := 96) hx hb dX5_findNames_92 (by decide) ?_
    cases hf
    exact x_zret (pc := 96) X V hr (by decide) dX5_findNames_96
set_option maxHeartbeats 400000 in
set_option maxRecDepth 100000 in
theorem wX5_findNames_b16 {nf : Nat} {p : Program} {l : Launch} {e : Env} {s : State} {m : MethodId} {args : Array Value} {below : List Frame} {meth : Method} {c : Code} {D : va_G} {dA : Nat → ClassId} {s0 : Nat} {T : xT} {N : xT} {Z : Nat} {L : xL} {R : xR}  {ro : Int32} {Io : xI} (X : Cx D dA s0 p m c cX5_findNames 4 s args RX5 meth) (hr : meth.sig.returnType = (some .boolean))   (k : Nat) : ∀ {I : xI} {x0 : Nat} {x1 : Int32} {x2 : Int32} {x3 : Int32} {H : Heap} {locs : List Loc} {ls : Array Slot} , fX5_findNames_b16 nf T N R k I x0 x1 x2 x3 = some (ro, Io) → Iv D dA s0 s T N Z I L R H locs → lv_has ls 4 [(0, .ref x0), (1, .int x1), (2, .int x2), (3, .int x3)] → W p l e { frames := 3, cells := 0, slots := 0, locals := 67 } s m args below meth c H locs 0 0 (MQ below (xQ D dA s0 (some (.int ro)) T N Z Io L R) args s 0 0 (fun q => s0 ≤ q)) (F0 m 16 ls []) := by
  have hx := X.1.1
  have hb := X.1.2.1
  induction k with
  | zero =>
    intro I x0 x1 x2 x3 H locs ls hf V hl
    exact absurd (show none = some _ from hf) (fun q => nomatch q)
  | succ k ih =>
    intro I x0 x1 x2 x3 H locs ls hf V hl
    rw [fX5_findNames_b16] at hf
    refine lv_iload_n (pc := 16) hx hb dX5_findNames_16 rfl (lv_at hl 3 rfl) ?_
    refine lv_if_lt (pc := 17) (tgt := 86) hx hb dX5_findNames_17 (by decide) (fun c1 => ?_) (fun c1 => ?_)
    · replace hf := if_t hf c1
      exact wX5_findNames_b86 X hr hf V (lv_sub hl [2, 3] rfl)
    · replace hf := if_f hf c1
      refine lv_iload_n (pc := 20) hx hb dX5_findNames_20 rfl (lv_at hl 3 rfl) ?_
      refine lv_iload_n (pc := 21) hx hb dX5_findNames_21 rfl (lv_at hl 2 rfl) ?_
      refine lv_icmp_ge (pc := 22) (tgt := 86) hx hb dX5_findNames_22 (by decide) (fun c2 => ?_) (fun c2 => ?_)
      · replace hf := if_t hf c2
        exact wX5_findNames_b86 X hr hf V (lv_sub hl [2, 3] rfl)
      · replace hf := if_f hf c2
        refine lv_aload_n (pc := 25) hx hb dX5_findNames_25 rfl (lv_at hl 0 rfl) ?_
        replace hf := tg_s hf; obtain ⟨ht3, hf⟩ := hf
        replace hf := bs hf; obtain ⟨a4, ha4, hf⟩ := hf
        refine x_get (pc := 26) X V okX5 ht3 45 (by decide) q1566 (v := va_rf (R x0 45)) rfl dX5_findNames_26 ?_
        refine x_topr ha4 ?_
        refine lv_iload_n (pc := 29) hx hb dX5_findNames_29 rfl (lv_at hl 3 rfl) ?_
        refine lv_dup2_11 (pc := 30) hx hb dX5_findNames_30 rfl rfl ?_
        replace hf := rA_s hf; obtain ⟨j5, hjj5, htj5, hij5, hf⟩ := hf
        refine x_iald (pc := 31) X V htj5 hij5 hjj5 dX5_findNames_31 ?_
        refine lv_iconst (pc := 32) (v := (ii 1)) hx hb dX5_findNames_32 (by decide) ?_
        refine lv_iadd (pc := 33) hx hb dX5_findNames_33 ?_
        replace hf := nm_s hf; obtain ⟨I6, hI6, hf⟩ := hf
        refine x_iast (pc := 34) X V htj5 hij5 hjj5 hI6 dX5_findNames_34 (fun H locs V => ?_)
        refine lv_aload_n (pc := 35) hx hb dX5_findNames_35 rfl (lv_at hl 0 rfl) ?_
        refine x_get (pc := 36) X V okX5 ht3 45 (by decide) q1566 (v := va_rf (R x0 45)) rfl dX5_findNames_36 ?_
        refine x_topr ha4 ?_
        refine lv_iload_n (pc := 39) hx hb dX5_findNames_39 rfl (lv_at hl 3 rfl) ?_
        refine x_iald (pc := 40) X V htj5 hij5 hjj5 dX5_findNames_40 ?_
        refine lv_iload_n (pc := 41) hx hb dX5_findNames_41 rfl (lv_at hl 1 rfl) ?_
        refine lv_icmp_ge (pc := 42) (tgt := 59) hx hb dX5_findNames_42 (by decide) (fun c7 => ?_) (fun c7 => ?_)
        · replace hf := if_t hf c7
          replace hf := nm_s hf; obtain ⟨u8, hu8, hf⟩ := hf
          refine lv_iinc (pc := 59) (v := u8) (lv' := [(3, .int u8), (0, .ref x0), (1, .int x1), (2, .int x2)]) hx hb dX5_findNames_59 hl (k := 3) rfl (by rw [hu8]; rfl) (by decide) rfl (fun ls hl => ?_)
          refine lv_goto (pc := 62) (tgt := 16) hx hb dX5_findNames_62 (by decide) ?_
          exact ih hf V (lv_sub hl [1, 2, 3, 0] rfl)
        · replace hf := if_f hf c7
          refine lv_aload_n (pc := 45) hx hb dX5_findNames_45 rfl (lv_at hl 0 rfl) ?_
          refine x_get (pc := 46) X V okX5 ht3 45 (by decide) q1566 (v := va_rf (R x0 45)) rfl dX5_findNames_46 ?_
          refine x_topr ha4 ?_
          refine lv_iload_n (pc := 49) hx hb dX5_findNames_49 rfl (lv_at hl 3 rfl) ?_
          refine x_iald (pc := 50) X V htj5 hij5 hjj5 dX5_findNames_50 ?_
          refine lv_aload_n (pc := 51) hx hb dX5_findNames_51 rfl (lv_at hl 0 rfl) ?_
          refine lv_iload_n (pc := 52) hx hb dX5_findNames_52 rfl (lv_at hl 3 rfl) ?_
          replace hf := bs hf; obtain ⟨r9, hk_10, hf⟩ := hf
          refine x_callV0 (pc := 53) (As := [.int x3]) (rest := [.int (I6 a4 j5)]) X V (mX5_nameAhead l D dA s0 hk_10) okX5 ht3 q2120 q2122 qs106 q129 q2123 ⟨rfl, hsX5_nameAhead⟩ ⟨Nat.le_of_ble_eq_true rfl, Nat.le_of_ble_eq_true rfl⟩ rfl hl.1 rfl (Nat.le_of_ble_eq_true rfl) dX5_findNames_53 ⟨Nat.zero_le _, Nat.zero_le _⟩ (fun H locs V => W.eq (g2 := F0 m 56 ls [.int r9, .int (I6 a4 j5)]) rfl ?_)
          refine lv_icmp_le (pc := 56) (tgt := 65) hx hb dX5_findNames_56 (by decide) (fun c11 => ?_) (fun c11 => ?_)
          · replace hf := if_t hf c11
            refine lv_aload_n (pc := 65) hx hb dX5_findNames_65 rfl (lv_at hl 0 rfl) ?_
            refine lv_iload_n (pc := 66) hx hb dX5_findNames_66 rfl (lv_at hl 3 rfl) ?_
            replace hf := bs hf; obtain ⟨r12, hk_13, hf⟩ := hf
            refine x_callV0 (pc := 67) (As := [.int x3]) (rest := []) X V (mX5_fitsName l D dA s0 hk_13) okX5 ht3 q2124 q2126 qs107 q129 q2127 ⟨rfl, hsX5_fitsName⟩ ⟨Nat.le_of_ble_eq_true rfl, Nat.le_of_ble_eq_true rfl⟩ rfl hl.1 rfl (Nat.le_of_ble_eq_true rfl) dX5_findNames_67 ⟨Nat.zero_le _, Nat.zero_le _⟩ (fun H locs V => W.eq (g2 := F0 m 70 ls [.int r12]) rfl ?_)
            refine lv_if_eq (pc := 70) (tgt := 16) hx hb dX5_findNames_70 (by decide) (fun c14 => ?_) (fun c14 => ?_)
            · replace hf := if_t hf c14
              exact ih hf V (lv_sub hl [0, 1, 2, 3] rfl)
            · replace hf := if_f hf c14
              replace hf := nm_s hf; obtain ⟨u15, hu15, hf⟩ := hf
              refine lv_iinc (pc := 73) (v := u15) (lv' := [(3, .int u15), (0, .ref x0), (1, .int x1), (2, .int x2)]) hx hb dX5_findNames_73 hl (k := 3) rfl (by rw [hu15]; rfl) (by decide) rfl (fun ls hl => ?_)
              refine lv_aload_n (pc := 76) hx hb dX5_findNames_76 rfl (lv_at hl 1 rfl) ?_
              refine x_get (pc := 77) X V okX5 ht3 45 (by decide) q1566 (v := va_rf (R x0 45)) rfl dX5_findNames_77 ?_
              refine x_topr ha4 ?_
              refine lv_iload_n (pc := 80) hx hb dX5_findNames_80 rfl (lv_at hl 0 rfl) ?_
              refine lv_iconst (pc := 81) (v := (-1 : Int32)) hx hb dX5_findNames_81 (by decide) ?_
              replace hf := rA_s hf; obtain ⟨j16, hjj16, htj16, hij16, hf⟩ := hf
              replace hf := nm_s hf; obtain ⟨I17, hI17, hf⟩ := hf
              refine x_iast (pc := 82) X V htj16 hij16 hjj16 hI17 dX5_findNames_82 (fun H locs V => ?_)
              refine lv_goto (pc := 83) (tgt := 16) hx hb dX5_findNames_83 (by decide) ?_
              exact ih hf V (lv_sub hl [1, 2, 3, 0] rfl)
          · replace hf := if_f hf c11
            replace hf := nm_s hf; obtain ⟨u18, hu18, hf⟩ := hf
            refine lv_iinc (pc := 59) (v := u18) (lv' := [(3, .int u18), (0, .ref x0), (1, .int x1), (2, .int x2)]) hx hb dX5_findNames_59 hl (k := 3) rfl (by rw [hu18]; rfl) (by decide) rfl (fun ls hl => ?_)
            refine lv_goto (pc := 62) (tgt := 16) hx hb dX5_findNames_62 (by decide) ?_
            exact ih hf V (lv_sub hl [1, 2, 3, 0] rfl)
set_option maxHeartbeats 400000 in
set_option maxRecDepth 100000 in
theorem wX5_findNames_e {nf : Nat} {p : Program} {l : Launch} {e : Env} {s : State} {m : MethodId} {args : Array Value} {below : List Frame} {meth : Method} {c : Code} {D : va_G} {dA : Nat → ClassId} {s0 : Nat} {T : xT} {N : xT} {Z : Nat} {I : xI} {L : xL} {R : xR} {H : Heap} {locs : List Loc} {ls : Array Slot} {x0 : Nat} {x1 : Int32} {ro : Int32} {Io : xI} (X : Cx D dA s0 p m c cX5_findNames 4 s args RX5 meth) (hr : meth.sig.returnType = (some .boolean)) (hf : fX5_findNames nf T N I R x0 x1 = some (ro, Io)) (V : Iv D dA s0 s T N Z I L R H locs) (hl : lv_has ls 4 [(0, .ref x0), (1, .int x1)]) : W p l e { frames := 3, cells := 0, slots := 0, locals := 67 } s m args below meth c H locs 0 0 (MQ below (xQ D dA s0 (some (.int ro)) T N Z Io L R) args s 0 0 (fun q => s0 ≤ q)) (F0 m 0 ls []) := by
  have hx := X.1.1
  have hb := X.1.2.1
  unfold fX5_findNames at hf
  refine lv_aload_n (pc := 0) hx hb dX5_findNames_0 rfl (lv_at hl 0 rfl) ?_
  replace hf := tg_s hf; obtain ⟨ht1, hf⟩ := hf
  replace hf := bs hf; obtain ⟨a2, ha2, hf⟩ := hf
  refine x_get (pc := 1) X V okX5 ht1 3 (by decide) q1524 (v := va_rf (R x0 3)) rfl dX5_findNames_1 ?_
  refine x_topr ha2 ?_
  refine lv_iconst (pc := 4) (v := (ii 0)) hx hb dX5_findNames_4 (by decide) ?_
  replace hf := rA_s hf; obtain ⟨j3, hjj3, htj3, hij3, hf⟩ := hf
  refine x_iald (pc := 5) X V htj3 hij3 hjj3 dX5_findNames_5 ?_
  replace hf := nm_s hf; obtain ⟨u4, hu4, hf⟩ := hf
  refine x_topi hu4 ?_
  refine lv_istore_n (pc := 6) (lv' := [(2, .int u4), (0, .ref x0), (1, .int x1)]) hx hb dX5_findNames_6 rfl hl (by decide) rfl (fun ls hl => ?_)
  refine lv_iconst (pc := 7) (v := (ii 0)) hx hb dX5_findNames_7 (by decide) ?_
  refine lv_istore_n (pc := 8) (lv' := [(3, .int (ii 0)), (2, .int u4), (0, .ref x0), (1, .int x1)]) hx hb dX5_findNames_8 rfl hl (by decide) rfl (fun ls hl => ?_)
  refine lv_aload_n (pc := 9) hx hb dX5_findNames_9 rfl (lv_at hl 2 rfl) ?_
  replace hf := bs hf; obtain ⟨a5, ha5, hf⟩ := hf
  refine x_get (pc := 10) X V okX5 ht1 45 (by decide) q1566 (v := va_rf (R x0 45)) rfl dX5_findNames_10 ?_
  refine x_topr ha5 ?_
  refine lv_iconst (pc := 13) (v := (ii 0)) hx hb dX5_findNames_13 (by decide) ?_
  refine lv_iconst (pc := 14) (v := (-1 : Int32)) hx hb dX5_findNames_14 (by decide) ?_
  replace hf := rA_s hf; obtain ⟨j6, hjj6, htj6, hij6, hf⟩ := hf
  replace hf := nm_s hf; obtain ⟨I7, hI7, hf⟩ := hf
  refine x_iast (pc := 15) X V htj6 hij6 hjj6 hI7 dX5_findNames_15 (fun H locs V => ?_)
  exact wX5_findNames_b16 X hr nf hf V (lv_sub hl [2, 3, 1, 0] rfl)
theorem mX5_findNames {nf : Nat} (l : Launch) (D : va_G) (dA : Nat → ClassId) (s0 : Nat) {T : xT} {N : xT} {Z : Nat} {I : xI} {L : xL} {R : xR} {x0 : Nat} {x1 : Int32} {ro : Int32} {Io : xI} (hf : fX5_findNames nf T N I R x0 x1 = some (ro, Io)) : XMet l D dA s0 yX5_findNames (ws_ yX5_findNames cX5_findNames 4 ((some .boolean))) (3) (67) [.ref x0, .int x1] T N Z I L R (some (.int ro)) T N Z Io L R 0 0 :=
  x_start (own := RX5) rfl (by decide) (Nat.le_of_ble_eq_true rfl) (lv := [(0, .ref x0), (1, .int x1)]) rfl (fun p e s m below meth c ls X hr hini V hl => wX5_findNames_e X hr hf V hl)
set_option maxHeartbeats 400000 in
set_option maxRecDepth 100000 in
theorem wX5_apart_b25 {nf : Nat} {p : Program} {l : Launch} {e : Env} {s : State} {m : MethodId} {args : Array Value} {below : List Frame} {meth : Method} {c : Code} {D : va_G} {dA : Nat → ClassId} {s0 : Nat} {T : xT} {N : xT} {Z : Nat} {L : xL} {R : xR}  {ro : Int32} {Io : xI} (X : Cx D dA s0 p m c cX5_apart 3 s args RX5 meth) (hr : meth.sig.returnType = (some .int))   (k : Nat) : ∀ {I : xI} {x0 : Nat} {x1 : Int32} {x2 : Int32} {H : Heap} {locs : List Loc} {ls : Array Slot} , fX5_apart_b25 nf T N R k I x0 x1 x2 = some (ro, Io) → Iv D dA s0 s T N Z I L R H locs → lv_has ls 3 [(0, .ref x0), (1, .int x1), (2, .int x2)] → W p l e { frames := 4, cells := 0, slots := 0, locals := 90 } s m args below meth c H locs 0 0 (MQ below (xQ D dA s0 (some (.int ro)) T N Z Io L R) args s 0 0 (fun q => s0 ≤ q)) (F0 m 25 ls []) := by
  have hx := X.1.1
  have hb := X.1.2.1
  induction k with
  | zero =>
    intro I x0 x1 x2 H locs ls hf V hl
    exact absurd (show none = some _ from hf) (fun q => nomatch q)
  | succ k ih =>
    intro I x0 x1 x2 H locs ls hf V hl
    rw [fX5_apart_b25] at hf
    refine lv_aload_n (pc := 25) hx hb dX5_apart_25 rfl (lv_at hl 0 rfl) ?_
    refine lv_iload_n (pc := 26) hx hb dX5_apart_26 rfl (lv_at hl 2 rfl) ?_
    replace hf := tg_s hf; obtain ⟨ht4, hf⟩ := hf
    replace hf := b2s hf; obtain ⟨r1, I2, hk_3, hf⟩ := hf
    refine x_callV0 (pc := 27) (As := [.int x2]) (rest := []) X V (mX5_findNames l D dA s0 hk_3) okX5 ht4 q2116 q2118 qs105 q129 q2119 ⟨rfl, hsX5_findNames⟩ ⟨Nat.le_of_ble_eq_true rfl, Nat.le_of_ble_eq_true rfl⟩ rfl hl.1 rfl (Nat.le_of_ble_eq_true rfl) dX5_apart_27 ⟨Nat.zero_le _, Nat.zero_le _⟩ (fun H locs V => W.eq (g2 := F0 m 30 ls [.int r1]) rfl ?_)
    refine lv_if_ne (pc := 30) (tgt := 39) hx hb dX5_apart_30 (by decide) (fun c5 => ?_) (fun c5 => ?_)
    · replace hf := if_f hf c5
      refine lv_iload_n (pc := 39) hx hb dX5_apart_39 rfl (lv_at hl 1 rfl) ?_
      refine lv_if_ne (pc := 40) (tgt := 47) hx hb dX5_apart_40 (by decide) (fun c6 => ?_) (fun c6 => ?_)
      · replace hf := if_f hf c6
        refine lv_aload_n (pc := 47) hx hb dX5_apart_47 rfl (lv_at hl 0 rfl) ?_
        replace hf := bs hf; obtain ⟨a7, ha7, hf⟩ := hf
        refine x_get (pc := 48) X V okX5 ht4 45 (by decide) q1566 (v := va_rf (R x0 45)) rfl dX5_apart_48 ?_
        refine x_topr ha7 ?_
        refine lv_iload_n (pc := 51) hx hb dX5_apart_51 rfl (lv_at hl 1 rfl) ?_
        refine lv_iconst (pc := 52) (v := (ii 1)) hx hb dX5_apart_52 (by decide) ?_
        refine lv_isub (pc := 53) hx hb dX5_apart_53 ?_
        replace hf := rA_s hf; obtain ⟨j8, hjj8, htj8, hij8, hf⟩ := hf
        refine x_iald (pc := 54) X V htj8 hij8 hjj8 dX5_apart_54 ?_
        cases hf
        exact x_iret (pc := 55) X V hr dX5_apart_55
      · replace hf := if_t hf c6
        refine lv_iload_n (pc := 43) hx hb dX5_apart_43 rfl (lv_at hl 2 rfl) ?_
        refine lv_goto (pc := 44) (tgt := 55) hx hb dX5_apart_44 (by decide) ?_
        cases hf
        exact x_iret (pc := 55) X V hr dX5_apart_55
    · replace hf := if_t hf c5
      replace hf := nm_s hf; obtain ⟨u9, hu9, hf⟩ := hf
      refine lv_iinc (pc := 33) (v := u9) (lv' := [(2, .int u9), (0, .ref x0), (1, .int x1)]) hx hb dX5_apart_33 hl (k := 2) rfl (by rw [hu9]; rfl) (by decide) rfl (fun ls hl => ?_)
      refine lv_goto (pc := 36) (tgt := 25) hx hb dX5_apart_36 (by decide) ?_
      exact ih hf V (lv_sub hl [1, 2, 0] rfl)
set_option maxHeartbeats 400000 in
set_option maxRecDepth 100000 in
theorem wX5_apart_e {nf : Nat} {p : Program} {l : Launch} {e : Env} {s : State} {m : MethodId} {args : Array Value} {below : List Frame} {meth : Method} {c : Code} {D : va_G} {dA : Nat → ClassId} {s0 : Nat} {T : xT} {N : xT} {Z : Nat} {I : xI} {L : xL} {R : xR} {H : Heap} {locs : List Loc} {ls : Array Slot} {x0 : Nat} {x1 : Int32} {ro : Int32} {Io : xI} (X : Cx D dA s0 p m c cX5_apart 3 s args RX5 meth) (hr : meth.sig.returnType = (some .int)) (hf : fX5_apart nf T N I R x0 x1 = some (ro, Io)) (V : Iv D dA s0 s T N Z I L R H locs) (hl : lv_has ls 3 [(0, .ref x0), (1, .int x1)]) : W p l e { frames := 4, cells := 0, slots := 0, locals := 90 } s m args below meth c H locs 0 0 (MQ below (xQ D dA s0 (some (.int ro)) T N Z Io L R) args s 0 0 (fun q => s0 ≤ q)) (F0 m 0 ls []) := by
  have hx := X.1.1
  have hb := X.1.2.1
  unfold fX5_apart at hf
  refine lv_aload_n (pc := 0) hx hb dX5_apart_0 rfl (lv_at hl 0 rfl) ?_
  refine lv_iconst (pc := 1) (v := (ii 0)) hx hb dX5_apart_1 (by decide) ?_
  replace hf := tg_s hf; obtain ⟨ht1, hf⟩ := hf
  replace hf := nm_s hf; obtain ⟨I2, hI2, hf⟩ := hf
  refine x_puti (pc := 2) X V okX5 (by decide) ht1 0 (by decide) q1521 (Or.inl rfl) hI2 (fun _ _ _ => rfl) rfl rfl dX5_apart_2 (fun H locs V => ?_)
  refine lv_iload_n (pc := 5) hx hb dX5_apart_5 rfl (lv_at hl 1 rfl) ?_
  refine lv_i2l (pc := 6) hx hb dX5_apart_6 rfl ?_
  refine lv_lconst (pc := 7) (v := (jj 0)) hx hb dX5_apart_7 (by decide) ?_
  refine lv_aload_n (pc := 8) hx hb dX5_apart_8 rfl (lv_at hl 0 rfl) ?_
  replace hf := bs hf; obtain ⟨a3, ha3, hf⟩ := hf
  refine x_get (pc := 9) X V okX5 ht1 3 (by decide) q1524 (v := va_rf (R x0 3)) rfl dX5_apart_9 ?_
  refine x_topr ha3 ?_
  refine lv_iconst (pc := 12) (v := (ii 0)) hx hb dX5_apart_12 (by decide) ?_
  replace hf := rA_s hf; obtain ⟨j4, hjj4, htj4, hij4, hf⟩ := hf
  refine x_iald (pc := 13) X V htj4 hij4 hjj4 dX5_apart_13 ?_
  refine lv_i2l (pc := 14) hx hb dX5_apart_14 rfl ?_
  replace hf := bs hf; obtain ⟨r5, hk_6, hf⟩ := hf
  refine x_callS0 (pc := 15) (As := [.long ((x1).toInt64), .long (jj 0), .long (((I2 a3 j4)).toInt64)]) (rest := []) X V (mX5_in l D dA s0 hk_6) q1713 q1714 q129 q1715 hsX5_in ⟨Nat.le_of_ble_eq_true rfl, Nat.le_of_ble_eq_true rfl⟩ rfl hl.1 rfl (Nat.le_of_ble_eq_true rfl) dX5_apart_15 ⟨Nat.zero_le _, Nat.zero_le _⟩ (fun H locs V => W.eq (g2 := F0 m 18 ls [.int r5]) rfl ?_)
  refine lv_if_ne (pc := 18) (tgt := 23) hx hb dX5_apart_18 (by decide) (fun c7 => ?_) (fun c7 => ?_)
  · replace hf := if_f hf c7
    refine lv_iconst (pc := 23) (v := (ii 0)) hx hb dX5_apart_23 (by decide) ?_
    refine lv_istore_n (pc := 24) (lv' := [(2, .int (ii 0)), (0, .ref x0), (1, .int x1)]) hx hb dX5_apart_24 rfl hl (by decide) rfl (fun ls hl => ?_)
    exact wX5_apart_b25 X hr nf hf V (lv_sub hl [1, 2, 0] rfl)
  · replace hf := if_t hf c7
    refine lv_iconst (pc := 21) (v := (-1 : Int32)) hx hb dX5_apart_21 (by decide) ?_
    cases hf
    exact x_iret (pc := 22) X V hr dX5_apart_22
theorem mX5_apart {nf : Nat} (l : Launch) (D : va_G) (dA : Nat → ClassId) (s0 : Nat) {T : xT} {N : xT} {Z : Nat} {I : xI} {L : xL} {R : xR} {x0 : Nat} {x1 : Int32} {ro : Int32} {Io : xI} (hf : fX5_apart nf T N I R x0 x1 = some (ro, Io)) : XMet l D dA s0 yX5_apart (ws_ yX5_apart cX5_apart 3 ((some .int))) (4) (90) [.ref x0, .int x1] T N Z I L R (some (.int ro)) T N Z Io L R 0 0 :=
  x_start (own := RX5) rfl (by decide) (Nat.le_of_ble_eq_true rfl) (lv := [(0, .ref x0), (1, .int x1)]) rfl (fun p e s m below meth c ls X hr hini V hl => wX5_apart_e X hr hf V hl)
set_option maxHeartbeats 400000 in
set_option maxRecDepth 100000 in
theorem wX5_alike_b23 {nf : Nat} {p : Program} {l : Launch} {e : Env} {s : State} {m : MethodId} {args : Array Value} {below : List Frame} {meth : Method} {c : Code} {D : va_G} {dA : Nat → ClassId} {s0 : Nat} {T : xT} {N : xT} {Z : Nat} {L : xL} {R : xR} {kk9 : xI → Nat → Int32 → Int32 → Option (Int32 × xI)} {ro : Int32} {Io : xI} (X : Cx D dA s0 p m c cX5_alike 4 s args RX5 meth) (hr : meth.sig.returnType = (some .int)) (hk9 : ∀ {I : xI} {x0 : Nat} {x1 : Int32} {x2 : Int32} {H : Heap} {locs : List Loc} {ls : Array Slot} , kk9 I x0 x1 x2 = some (ro, Io) → Iv D dA s0 s T N Z I L R H locs → lv_has ls 4 [(0, .ref x0), (1, .int x1), (2, .int x2)] → W p l e { frames := 2, cells := 0, slots := 0, locals := 44 } s m args below meth c H locs 0 0 (MQ below (xQ D dA s0 (some (.int ro)) T N Z Io L R) args s 0 0 (fun q => s0 ≤ q)) (F0 m 9 ls []))  (k : Nat) : ∀ {I : xI} {x0 : Nat} {x1 : Int32} {x2 : Int32} {x3 : Int32} {H : Heap} {locs : List Loc} {ls : Array Slot} , fX5_alike_b23 nf kk9 T N R k I x0 x1 x2 x3 = some (ro, Io) → Iv D dA s0 s T N Z I L R H locs → lv_has ls 4 [(0, .ref x0), (1, .int x1), (2, .int x2), (3, .int x3)] → W p l e { frames := 2, cells := 0, slots := 0, locals := 44 } s m args below meth c H locs 0 0 (MQ below (xQ D dA s0 (some (.int ro)) T N Z Io L R) args s 0 0 (fun q => s0 ≤ q)) (F0 m 23 ls []) := by
  have hx := X.1.1
  have hb := X.1.2.1
  induction k with
  | zero =>
    intro I x0 x1 x2 x3 H locs ls hf V hl
    exact absurd (show none = some _ from hf) (fun q => nomatch q)
  | succ k ih =>
    intro I x0 x1 x2 x3 H locs ls hf V hl
    rw [fX5_alike_b23] at hf
    refine lv_iload_n (pc := 23) hx hb dX5_alike_23 rfl (lv_at hl 3 rfl) ?_
    refine lv_aload_n (pc := 24) hx hb dX5_alike_24 rfl (lv_at hl 0 rfl) ?_
    replace hf := tg_s hf; obtain ⟨ht1, hf⟩ := hf
    replace hf := bs hf; obtain ⟨a2, ha2, hf⟩ := hf
    refine x_get (pc := 25) X V okX5 ht1 3 (by decide) q1524 (v := va_rf (R x0 3)) rfl dX5_alike_25 ?_
    refine x_topr ha2 ?_
    refine lv_iconst (pc := 28) (v := (ii 0)) hx hb dX5_alike_28 (by decide) ?_
    replace hf := rA_s hf; obtain ⟨j3, hjj3, htj3, hij3, hf⟩ := hf
    refine x_iald (pc := 29) X V htj3 hij3 hjj3 dX5_alike_29 ?_
    refine lv_icmp_ge (pc := 30) (tgt := 90) hx hb dX5_alike_30 (by decide) (fun c4 => ?_) (fun c4 => ?_)
    · replace hf := if_t hf c4
      replace hf := nm_s hf; obtain ⟨u5, hu5, hf⟩ := hf
      refine lv_iinc (pc := 90) (v := u5) (lv' := [(2, .int u5), (0, .ref x0), (1, .int x1), (3, .int x3)]) hx hb dX5_alike_90 hl (k := 2) rfl (by rw [hu5]; rfl) (by decide) rfl (fun ls hl => ?_)
      refine lv_goto (pc := 93) (tgt := 9) hx hb dX5_alike_93 (by decide) ?_
      exact hk9 hf V (lv_sub hl [1, 2, 0] rfl)
    · replace hf := if_f hf c4
      refine lv_iload_n (pc := 33) hx hb dX5_alike_33 rfl (lv_at hl 1 rfl) ?_
      refine lv_aload_n (pc := 34) hx hb dX5_alike_34 rfl (lv_at hl 0 rfl) ?_
      refine x_get (pc := 35) X V okX5 ht1 3 (by decide) q1524 (v := va_rf (R x0 3)) rfl dX5_alike_35 ?_
      refine x_topr ha2 ?_
      refine lv_bipush (pc := 38) (v := (ii 8)) hx hb dX5_alike_38 (by decide) ?_
      refine lv_iload_n (pc := 40) hx hb dX5_alike_40 rfl (lv_at hl 2 rfl) ?_
      refine lv_iadd (pc := 41) hx hb dX5_alike_41 ?_
      replace hf := rA_s hf; obtain ⟨j6, hjj6, htj6, hij6, hf⟩ := hf
      refine x_iald (pc := 42) X V htj6 hij6 hjj6 dX5_alike_42 ?_
      refine lv_iconst (pc := 43) (v := (-1 : Int32)) hx hb dX5_alike_43 (by decide) ?_
      refine lv_icmp_eq (pc := 44) (tgt := 81) hx hb dX5_alike_44 (by decide) (fun c7 => ?_) (fun c7 => ?_)
      · replace hf := if_t hf c7
        refine lv_iconst (pc := 81) (v := (ii 0)) hx hb dX5_alike_81 (by decide) ?_
        refine lv_iadd (pc := 82) hx hb dX5_alike_82 ?_
        replace hf := nm_s hf; obtain ⟨u8, hu8, hf⟩ := hf
        refine x_topi hu8 ?_
        refine lv_istore_n (pc := 83) (lv' := [(1, .int u8), (0, .ref x0), (2, .int x2), (3, .int x3)]) hx hb dX5_alike_83 rfl hl (by decide) rfl (fun ls hl => ?_)
        replace hf := nm_s hf; obtain ⟨u9, hu9, hf⟩ := hf
        refine lv_iinc (pc := 84) (v := u9) (lv' := [(3, .int u9), (1, .int u8), (0, .ref x0), (2, .int x2)]) hx hb dX5_alike_84 hl (k := 3) rfl (by rw [hu9]; rfl) (by decide) rfl (fun ls hl => ?_)
        refine lv_goto (pc := 87) (tgt := 23) hx hb dX5_alike_87 (by decide) ?_
        exact ih hf V (lv_sub hl [2, 1, 3, 0] rfl)
      · replace hf := if_f hf c7
        refine lv_aload_n (pc := 47) hx hb dX5_alike_47 rfl (lv_at hl 0 rfl) ?_
        refine x_get (pc := 48) X V okX5 ht1 3 (by decide) q1524 (v := va_rf (R x0 3)) rfl dX5_alike_48 ?_
        refine x_topr ha2 ?_
        refine lv_bipush (pc := 51) (v := (ii 8)) hx hb dX5_alike_51 (by decide) ?_
        refine lv_iload_n (pc := 53) hx hb dX5_alike_53 rfl (lv_at hl 2 rfl) ?_
        refine lv_iadd (pc := 54) hx hb dX5_alike_54 ?_
        refine x_iald (pc := 55) X V htj6 hij6 hjj6 dX5_alike_55 ?_
        refine lv_aload_n (pc := 56) hx hb dX5_alike_56 rfl (lv_at hl 0 rfl) ?_
        refine x_get (pc := 57) X V okX5 ht1 3 (by decide) q1524 (v := va_rf (R x0 3)) rfl dX5_alike_57 ?_
        refine x_topr ha2 ?_
        refine lv_bipush (pc := 60) (v := (ii 8)) hx hb dX5_alike_60 (by decide) ?_
        refine lv_iload_n (pc := 62) hx hb dX5_alike_62 rfl (lv_at hl 3 rfl) ?_
        refine lv_iadd (pc := 63) hx hb dX5_alike_63 ?_
        replace hf := rA_s hf; obtain ⟨j10, hjj10, htj10, hij10, hf⟩ := hf
        refine x_iald (pc := 64) X V htj10 hij10 hjj10 dX5_alike_64 ?_
        refine lv_icmp_ne (pc := 65) (tgt := 81) hx hb dX5_alike_65 (by decide) (fun c11 => ?_) (fun c11 => ?_)
        · replace hf := if_f hf c11
          refine lv_iconst (pc := 81) (v := (ii 0)) hx hb dX5_alike_81 (by decide) ?_
          refine lv_iadd (pc := 82) hx hb dX5_alike_82 ?_
          replace hf := nm_s hf; obtain ⟨u12, hu12, hf⟩ := hf
          refine x_topi hu12 ?_
          refine lv_istore_n (pc := 83) (lv' := [(1, .int u12), (0, .ref x0), (2, .int x2), (3, .int x3)]) hx hb dX5_alike_83 rfl hl (by decide) rfl (fun ls hl => ?_)
          replace hf := nm_s hf; obtain ⟨u13, hu13, hf⟩ := hf
          refine lv_iinc (pc := 84) (v := u13) (lv' := [(3, .int u13), (1, .int u12), (0, .ref x0), (2, .int x2)]) hx hb dX5_alike_84 hl (k := 3) rfl (by rw [hu13]; rfl) (by decide) rfl (fun ls hl => ?_)
          refine lv_goto (pc := 87) (tgt := 23) hx hb dX5_alike_87 (by decide) ?_
          exact ih hf V (lv_sub hl [2, 1, 3, 0] rfl)
        · replace hf := if_t hf c11
          refine lv_aload_n (pc := 68) hx hb dX5_alike_68 rfl (lv_at hl 0 rfl) ?_
          refine lv_iload_n (pc := 69) hx hb dX5_alike_69 rfl (lv_at hl 2 rfl) ?_
          refine lv_iload_n (pc := 70) hx hb dX5_alike_70 rfl (lv_at hl 3 rfl) ?_
          replace hf := bs hf; obtain ⟨r14, hk_15, hf⟩ := hf
          refine x_callV0 (pc := 71) (As := [.int x2, .int x3]) (rest := [.int x1]) X V (mX5_haveCorner l D dA s0 hk_15) okX5 ht1 q2128 q2130 qs108 q129 q2131 ⟨rfl, hsX5_haveCorner⟩ ⟨Nat.le_of_ble_eq_true rfl, Nat.le_of_ble_eq_true rfl⟩ rfl hl.1 rfl (Nat.le_of_ble_eq_true rfl) dX5_alike_71 ⟨Nat.zero_le _, Nat.zero_le _⟩ (fun H locs V => W.eq (g2 := F0 m 74 ls [.int r14, .int x1]) rfl ?_)
          refine lv_if_eq (pc := 74) (tgt := 81) hx hb dX5_alike_74 (by decide) (fun c16 => ?_) (fun c16 => ?_)
          · replace hf := if_t hf c16
            refine lv_iconst (pc := 81) (v := (ii 0)) hx hb dX5_alike_81 (by decide) ?_
            refine lv_iadd (pc := 82) hx hb dX5_alike_82 ?_
            replace hf := nm_s hf; obtain ⟨u17, hu17, hf⟩ := hf
            refine x_topi hu17 ?_
            refine lv_istore_n (pc := 83) (lv' := [(1, .int u17), (0, .ref x0), (2, .int x2), (3, .int x3)]) hx hb dX5_alike_83 rfl hl (by decide) rfl (fun ls hl => ?_)
            replace hf := nm_s hf; obtain ⟨u18, hu18, hf⟩ := hf
            refine lv_iinc (pc := 84) (v := u18) (lv' := [(3, .int u18), (1, .int u17), (0, .ref x0), (2, .int x2)]) hx hb dX5_alike_84 hl (k := 3) rfl (by rw [hu18]; rfl) (by decide) rfl (fun ls hl => ?_)
            refine lv_goto (pc := 87) (tgt := 23) hx hb dX5_alike_87 (by decide) ?_
            exact ih hf V (lv_sub hl [2, 1, 3, 0] rfl)
          · replace hf := if_f hf c16
            refine lv_iconst (pc := 77) (v := (ii 1)) hx hb dX5_alike_77 (by decide) ?_
            refine lv_goto (pc := 78) (tgt := 82) hx hb dX5_alike_78 (by decide) ?_
            refine lv_iadd (pc := 82) hx hb dX5_alike_82 ?_
            replace hf := nm_s hf; obtain ⟨u19, hu19, hf⟩ := hf
            refine x_topi hu19 ?_
            refine lv_istore_n (pc := 83) (lv' := [(1, .int u19), (0, .ref x0), (2, .int x2), (3, .int x3)]) hx hb dX5_alike_83 rfl hl (by decide) rfl (fun ls hl => ?_)
            replace hf := nm_s hf; obtain ⟨u20, hu20, hf⟩ := hf
            refine lv_iinc (pc := 84) (v := u20) (lv' := [(3, .int u20), (1, .int u19), (0, .ref x0), (2, .int x2)]) hx hb dX5_alike_84 hl (k := 3) rfl (by rw [hu20]; rfl) (by decide) rfl (fun ls hl => ?_)
            refine lv_goto (pc := 87) (tgt := 23) hx hb dX5_alike_87 (by decide) ?_
            exact ih hf V (lv_sub hl [2, 1, 3, 0] rfl)
set_option maxHeartbeats 400000 in
set_option maxRecDepth 100000 in
theorem wX5_alike_b9 {nf : Nat} {p : Program} {l : Launch} {e : Env} {s : State} {m : MethodId} {args : Array Value} {below : List Frame} {meth : Method} {c : Code} {D : va_G} {dA : Nat → ClassId} {s0 : Nat} {T : xT} {N : xT} {Z : Nat} {L : xL} {R : xR}  {ro : Int32} {Io : xI} (X : Cx D dA s0 p m c cX5_alike 4 s args RX5 meth) (hr : meth.sig.returnType = (some .int))   (k : Nat) : ∀ {I : xI} {x0 : Nat} {x1 : Int32} {x2 : Int32} {H : Heap} {locs : List Loc} {ls : Array Slot} , fX5_alike_b9 nf T N R k I x0 x1 x2 = some (ro, Io) → Iv D dA s0 s T N Z I L R H locs → lv_has ls 4 [(0, .ref x0), (1, .int x1), (2, .int x2)] → W p l e { frames := 2, cells := 0, slots := 0, locals := 44 } s m args below meth c H locs 0 0 (MQ below (xQ D dA s0 (some (.int ro)) T N Z Io L R) args s 0 0 (fun q => s0 ≤ q)) (F0 m 9 ls []) := by
  have hx := X.1.1
  have hb := X.1.2.1
  induction k with
  | zero =>
    intro I x0 x1 x2 H locs ls hf V hl
    exact absurd (show none = some _ from hf) (fun q => nomatch q)
  | succ k ih =>
    intro I x0 x1 x2 H locs ls hf V hl
    rw [fX5_alike_b9] at hf
    refine lv_iload_n (pc := 9) hx hb dX5_alike_9 rfl (lv_at hl 2 rfl) ?_
    refine lv_aload_n (pc := 10) hx hb dX5_alike_10 rfl (lv_at hl 0 rfl) ?_
    replace hf := tg_s hf; obtain ⟨ht1, hf⟩ := hf
    replace hf := bs hf; obtain ⟨a2, ha2, hf⟩ := hf
    refine x_get (pc := 11) X V okX5 ht1 3 (by decide) q1524 (v := va_rf (R x0 3)) rfl dX5_alike_11 ?_
    refine x_topr ha2 ?_
    refine lv_iconst (pc := 14) (v := (ii 0)) hx hb dX5_alike_14 (by decide) ?_
    replace hf := rA_s hf; obtain ⟨j3, hjj3, htj3, hij3, hf⟩ := hf
    refine x_iald (pc := 15) X V htj3 hij3 hjj3 dX5_alike_15 ?_
    refine lv_icmp_ge (pc := 16) (tgt := 96) hx hb dX5_alike_16 (by decide) (fun c4 => ?_) (fun c4 => ?_)
    · replace hf := if_t hf c4
      refine lv_iload_n (pc := 96) hx hb dX5_alike_96 rfl (lv_at hl 1 rfl) ?_
      cases hf
      exact x_iret (pc := 97) X V hr dX5_alike_97
    · replace hf := if_f hf c4
      refine lv_iload_n (pc := 19) hx hb dX5_alike_19 rfl (lv_at hl 2 rfl) ?_
      refine lv_iconst (pc := 20) (v := (ii 1)) hx hb dX5_alike_20 (by decide) ?_
      refine lv_iadd (pc := 21) hx hb dX5_alike_21 ?_
      replace hf := nm_s hf; obtain ⟨u5, hu5, hf⟩ := hf
      refine x_topi hu5 ?_
      refine lv_istore_n (pc := 22) (lv' := [(3, .int u5), (0, .ref x0), (1, .int x1), (2, .int x2)]) hx hb dX5_alike_22 rfl hl (by decide) rfl (fun ls hl => ?_)
      exact wX5_alike_b23 X hr ih nf hf V (lv_sub hl [1, 2, 3, 0] rfl)
set_option maxHeartbeats 400000 in
set_option maxRecDepth 100000 in
theorem wX5_alike_e {nf : Nat} {p : Program} {l : Launch} {e : Env} {s : State} {m : MethodId} {args : Array Value} {below : List Frame} {meth : Method} {c : Code} {D : va_G} {dA : Nat → ClassId} {s0 : Nat} {T : xT} {N : xT} {Z : Nat} {I : xI} {L : xL} {R : xR} {H : Heap} {locs : List Loc} {ls : Array Slot} {x0 : Nat} {ro : Int32} {Io : xI} (X : Cx D dA s0 p m c cX5_alike 4 s args RX5 meth) (hr : meth.sig.returnType = (some .int)) (hf : fX5_alike nf T N I R x0 = some (ro, Io)) (V : Iv D dA s0 s T N Z I L R H locs) (hl : lv_has ls 4 [(0, .ref x0)]) : W p l e { frames := 2, cells := 0, slots := 0, locals := 44 } s m args below meth c H locs 0 0 (MQ below (xQ D dA s0 (some (.int ro)) T N Z Io L R) args s 0 0 (fun q => s0 ≤ q)) (F0 m 0 ls []) := by
  have hx := X.1.1
  have hb := X.1.2.1
  unfold fX5_alike at hf
  refine lv_aload_n (pc := 0) hx hb dX5_alike_0 rfl (lv_at hl 0 rfl) ?_
  refine lv_iconst (pc := 1) (v := (ii 0)) hx hb dX5_alike_1 (by decide) ?_
  replace hf := tg_s hf; obtain ⟨ht1, hf⟩ := hf
  replace hf := nm_s hf; obtain ⟨I2, hI2, hf⟩ := hf
  refine x_puti (pc := 2) X V okX5 (by decide) ht1 0 (by decide) q1521 (Or.inl rfl) hI2 (fun _ _ _ => rfl) rfl rfl dX5_alike_2 (fun H locs V => ?_)
  refine lv_iconst (pc := 5) (v := (ii 0)) hx hb dX5_alike_5 (by decide) ?_
  refine lv_istore_n (pc := 6) (lv' := [(1, .int (ii 0)), (0, .ref x0)]) hx hb dX5_alike_6 rfl hl (by decide) rfl (fun ls hl => ?_)
  refine lv_iconst (pc := 7) (v := (ii 0)) hx hb dX5_alike_7 (by decide) ?_
  refine lv_istore_n (pc := 8) (lv' := [(2, .int (ii 0)), (1, .int (ii 0)), (0, .ref x0)]) hx hb dX5_alike_8 rfl hl (by decide) rfl (fun ls hl => ?_)
  exact wX5_alike_b9 X hr nf hf V (lv_sub hl [2, 1, 0] rfl)
theorem mX5_alike {nf : Nat} (l : Launch) (D : va_G) (dA : Nat → ClassId) (s0 : Nat) {T : xT} {N : xT} {Z : Nat} {I : xI} {L : xL} {R : xR} {x0 : Nat} {ro : Int32} {Io : xI} (hf : fX5_alike nf T N I R x0 = some (ro, Io)) : XMet l D dA s0 yX5_alike (ws_ yX5_alike cX5_alike 4 ((some .int))) (2) (44) [.ref x0] T N Z I L R (some (.int ro)) T N Z Io L R 0 0 :=
  x_start (own := RX5) rfl (by decide) (Nat.le_of_ble_eq_true rfl) (lv := [(0, .ref x0)]) rfl (fun p e s m below meth c ls X hr hini V hl => wX5_alike_e X hr hf V hl)
