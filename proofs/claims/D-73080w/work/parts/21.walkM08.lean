set_option maxHeartbeats 400000 in
set_option maxRecDepth 100000 in
theorem wX5_layPaired_b36 {nf : Nat} {p : Program} {l : Launch} {e : Env} {s : State} {m : MethodId} {args : Array Value} {below : List Frame} {meth : Method} {c : Code} {D : va_G} {dA : Nat → ClassId} {s0 : Nat} {T : xT} {N : xT} {Z : Nat} {L : xL} {R : xR} {kk2 : xI → Nat → Int32 → Option (xI)} {kk28 : xI → Nat → Int32 → Int32 → Option (xI)} {Io : xI} (X : Cx D dA s0 p m c cX5_layPaired 5 s args RX5 meth) (hr : meth.sig.returnType = none) (hk2 : ∀ {I : xI} {x0 : Nat} {x1 : Int32} {H : Heap} {locs : List Loc} {ls : Array Slot} , kk2 I x0 x1 = some Io → Iv D dA s0 s T N Z I L R H locs → lv_has ls 5 [(0, .ref x0), (1, .int x1)] → W p l e { frames := 1, cells := 0, slots := 0, locals := 22 } s m args below meth c H locs 0 0 (MQ below (xQ D dA s0 none T N Z Io L R) args s 0 0 (fun q => s0 ≤ q)) (F0 m 2 ls [])) (hk28 : ∀ {I : xI} {x0 : Nat} {x1 : Int32} {x2 : Int32} {H : Heap} {locs : List Loc} {ls : Array Slot} , kk28 I x0 x1 x2 = some Io → Iv D dA s0 s T N Z I L R H locs → lv_has ls 5 [(0, .ref x0), (1, .int x1), (2, .int x2)] → W p l e { frames := 1, cells := 0, slots := 0, locals := 22 } s m args below meth c H locs 0 0 (MQ below (xQ D dA s0 none T N Z Io L R) args s 0 0 (fun q => s0 ≤ q)) (F0 m 28 ls []))  (k : Nat) : ∀ {I : xI} {x0 : Nat} {x1 : Int32} {x2 : Int32} {x3 : Int32} {H : Heap} {locs : List Loc} {ls : Array Slot} , fX5_layPaired_b36 nf kk2 kk28 T N R k I x0 x1 x2 x3 = some Io → Iv D dA s0 s T N Z I L R H locs → lv_has ls 5 [(0, .ref x0), (1, .int x1), (2, .int x2), (3, .int x3)] → W p l e { frames := 1, cells := 0, slots := 0, locals := 22 } s m args below meth c H locs 0 0 (MQ below (xQ D dA s0 none T N Z Io L R) args s 0 0 (fun q => s0 ≤ q)) (F0 m 36 ls []) := by
  have hx := X.1.1
  have hb := X.1.2.1
  induction k with
  | zero =>
    intro I x0 x1 x2 x3 H locs ls hf V hl
    exact absurd (show none = some _ from hf) (fun q => nomatch q)
  | succ k ih =>
    intro I x0 x1 x2 x3 H locs ls hf V hl
    rw [fX5_layPaired_b36] at hf
    refine lv_iload_n (pc := 36) hx hb dX5_layPaired_36 rfl (lv_at hl 3 rfl) ?_
    refine lv_iload_n (pc := 37) hx hb dX5_layPaired_37 rfl (lv_at hl 2 rfl) ?_
    refine lv_icmp_ge (pc := 38) (tgt := 130) hx hb dX5_layPaired_38 (by decide) (fun c1 => ?_) (fun c1 => ?_)
    · replace hf := if_t hf c1
      replace hf := nm_s hf; obtain ⟨u2, hu2, hf⟩ := hf
      refine lv_iinc (pc := 130) (v := u2) (lv' := [(2, .int u2), (0, .ref x0), (1, .int x1), (3, .int x3)]) hx hb dX5_layPaired_130 hl (k := 2) rfl (by rw [hu2]; rfl) (by decide) rfl (fun ls hl => ?_)
      refine lv_goto (pc := 133) (tgt := 28) hx hb dX5_layPaired_133 (by decide) ?_
      exact hk28 hf V (lv_sub hl [1, 2, 0] rfl)
    · replace hf := if_f hf c1
      refine lv_iload_n (pc := 41) hx hb dX5_layPaired_41 rfl (lv_at hl 1 rfl) ?_
      refine lv_iload_n (pc := 42) hx hb dX5_layPaired_42 rfl (lv_at hl 2 rfl) ?_
      replace hf := bs hf; obtain ⟨r3, hk_4, hf⟩ := hf
      refine x_callS0 (pc := 43) (As := [.int x1, .int x2]) (rest := []) X V (mX5_is l D dA s0 hk_4) q2071 q2072 q129 q2073 hsX5_is ⟨Nat.le_of_ble_eq_true rfl, Nat.le_of_ble_eq_true rfl⟩ rfl hl.1 rfl (Nat.le_of_ble_eq_true rfl) dX5_layPaired_43 ⟨Nat.zero_le _, Nat.zero_le _⟩ (fun H locs V => W.eq (g2 := F0 m 46 ls [.int r3]) rfl ?_)
      refine lv_if_eq (pc := 46) (tgt := 124) hx hb dX5_layPaired_46 (by decide) (fun c5 => ?_) (fun c5 => ?_)
      · replace hf := if_t hf c5
        replace hf := nm_s hf; obtain ⟨u6, hu6, hf⟩ := hf
        refine lv_iinc (pc := 124) (v := u6) (lv' := [(3, .int u6), (0, .ref x0), (1, .int x1), (2, .int x2)]) hx hb dX5_layPaired_124 hl (k := 3) rfl (by rw [hu6]; rfl) (by decide) rfl (fun ls hl => ?_)
        refine lv_goto (pc := 127) (tgt := 36) hx hb dX5_layPaired_127 (by decide) ?_
        exact ih hf V (lv_sub hl [1, 2, 3, 0] rfl)
      · replace hf := if_f hf c5
        refine lv_iload_n (pc := 49) hx hb dX5_layPaired_49 rfl (lv_at hl 1 rfl) ?_
        refine lv_iload_n (pc := 50) hx hb dX5_layPaired_50 rfl (lv_at hl 3 rfl) ?_
        replace hf := bs hf; obtain ⟨r7, hk_8, hf⟩ := hf
        refine x_callS0 (pc := 51) (As := [.int x1, .int x3]) (rest := []) X V (mX5_is l D dA s0 hk_8) q2071 q2072 q129 q2073 hsX5_is ⟨Nat.le_of_ble_eq_true rfl, Nat.le_of_ble_eq_true rfl⟩ rfl hl.1 rfl (Nat.le_of_ble_eq_true rfl) dX5_layPaired_51 ⟨Nat.zero_le _, Nat.zero_le _⟩ (fun H locs V => W.eq (g2 := F0 m 54 ls [.int r7]) rfl ?_)
        refine lv_if_eq (pc := 54) (tgt := 124) hx hb dX5_layPaired_54 (by decide) (fun c9 => ?_) (fun c9 => ?_)
        · replace hf := if_t hf c9
          replace hf := nm_s hf; obtain ⟨u10, hu10, hf⟩ := hf
          refine lv_iinc (pc := 124) (v := u10) (lv' := [(3, .int u10), (0, .ref x0), (1, .int x1), (2, .int x2)]) hx hb dX5_layPaired_124 hl (k := 3) rfl (by rw [hu10]; rfl) (by decide) rfl (fun ls hl => ?_)
          refine lv_goto (pc := 127) (tgt := 36) hx hb dX5_layPaired_127 (by decide) ?_
          exact ih hf V (lv_sub hl [1, 2, 3, 0] rfl)
        · replace hf := if_f hf c9
          refine lv_aload_n (pc := 57) hx hb dX5_layPaired_57 rfl (lv_at hl 0 rfl) ?_
          refine lv_iload_n (pc := 58) hx hb dX5_layPaired_58 rfl (lv_at hl 2 rfl) ?_
          refine lv_iload_n (pc := 59) hx hb dX5_layPaired_59 rfl (lv_at hl 3 rfl) ?_
          replace hf := tg_s hf; obtain ⟨ht13, hf⟩ := hf
          replace hf := bs hf; obtain ⟨r11, hk_12, hf⟩ := hf
          refine x_callV0 (pc := 60) (As := [.int x2, .int x3]) (rest := []) X V (mX5_farOf l D dA s0 hk_12) okX5 ht13 q2039 q2041 qs98 q129 q2042 ⟨rfl, hsX5_farOf⟩ ⟨Nat.le_of_ble_eq_true rfl, Nat.le_of_ble_eq_true rfl⟩ rfl hl.1 rfl (Nat.le_of_ble_eq_true rfl) dX5_layPaired_60 ⟨Nat.zero_le _, Nat.zero_le _⟩ (fun H locs V => W.eq (g2 := F0 m 63 ls [.int r11]) rfl ?_)
          refine lv_ldcw (pc := 63) (v := (ii 100000000)) hx hb X.1.2.2.2.1 (X.1.2.2.2.2 _ q2038) dX5_layPaired_63 ?_
          refine lv_icmp_ge (pc := 66) (tgt := 124) hx hb dX5_layPaired_66 (by decide) (fun c14 => ?_) (fun c14 => ?_)
          · replace hf := if_t hf c14
            replace hf := nm_s hf; obtain ⟨u15, hu15, hf⟩ := hf
            refine lv_iinc (pc := 124) (v := u15) (lv' := [(3, .int u15), (0, .ref x0), (1, .int x1), (2, .int x2)]) hx hb dX5_layPaired_124 hl (k := 3) rfl (by rw [hu15]; rfl) (by decide) rfl (fun ls hl => ?_)
            refine lv_goto (pc := 127) (tgt := 36) hx hb dX5_layPaired_127 (by decide) ?_
            exact ih hf V (lv_sub hl [1, 2, 3, 0] rfl)
          · replace hf := if_f hf c14
            refine lv_aload_n (pc := 69) hx hb dX5_layPaired_69 rfl (lv_at hl 0 rfl) ?_
            replace hf := bs hf; obtain ⟨a16, ha16, hf⟩ := hf
            refine x_get (pc := 70) X V okX5 ht13 46 (by decide) q1567 (v := va_rf (R x0 46)) rfl dX5_layPaired_70 ?_
            refine x_topr ha16 ?_
            refine lv_iload_n (pc := 73) hx hb dX5_layPaired_73 rfl (lv_at hl 1 rfl) ?_
            refine lv_iconst (pc := 74) (v := (ii 1)) hx hb dX5_layPaired_74 (by decide) ?_
            refine lv_iload_n (pc := 75) hx hb dX5_layPaired_75 rfl (lv_at hl 2 rfl) ?_
            refine lv_ishl (pc := 76) hx hb dX5_layPaired_76 ?_
            refine lv_iconst (pc := 77) (v := (-1 : Int32)) hx hb dX5_layPaired_77 (by decide) ?_
            refine lv_ixor (pc := 78) hx hb dX5_layPaired_78 ?_
            refine lv_iand (pc := 79) hx hb dX5_layPaired_79 ?_
            refine lv_iconst (pc := 80) (v := (ii 1)) hx hb dX5_layPaired_80 (by decide) ?_
            refine lv_iload_n (pc := 81) hx hb dX5_layPaired_81 rfl (lv_at hl 3 rfl) ?_
            refine lv_ishl (pc := 82) hx hb dX5_layPaired_82 ?_
            refine lv_iconst (pc := 83) (v := (-1 : Int32)) hx hb dX5_layPaired_83 (by decide) ?_
            refine lv_ixor (pc := 84) hx hb dX5_layPaired_84 ?_
            refine lv_iand (pc := 85) hx hb dX5_layPaired_85 ?_
            replace hf := rA_s hf; obtain ⟨j17, hjj17, htj17, hij17, hf⟩ := hf
            refine x_iald (pc := 86) X V htj17 hij17 hjj17 dX5_layPaired_86 ?_
            refine lv_aload_n (pc := 87) hx hb dX5_layPaired_87 rfl (lv_at hl 0 rfl) ?_
            refine lv_iload_n (pc := 88) hx hb dX5_layPaired_88 rfl (lv_at hl 2 rfl) ?_
            refine lv_iload_n (pc := 89) hx hb dX5_layPaired_89 rfl (lv_at hl 3 rfl) ?_
            replace hf := bs hf; obtain ⟨r18, hk_19, hf⟩ := hf
            refine x_callV0 (pc := 90) (As := [.int x2, .int x3]) (rest := [.int (I a16 j17)]) X V (mX5_farOf l D dA s0 hk_19) okX5 ht13 q2039 q2041 qs98 q129 q2042 ⟨rfl, hsX5_farOf⟩ ⟨Nat.le_of_ble_eq_true rfl, Nat.le_of_ble_eq_true rfl⟩ rfl hl.1 rfl (Nat.le_of_ble_eq_true rfl) dX5_layPaired_90 ⟨Nat.zero_le _, Nat.zero_le _⟩ (fun H locs V => W.eq (g2 := F0 m 93 ls [.int r18, .int (I a16 j17)]) rfl ?_)
            refine lv_iadd (pc := 93) hx hb dX5_layPaired_93 ?_
            replace hf := nm_s hf; obtain ⟨u20, hu20, hf⟩ := hf
            refine x_topi hu20 ?_
            refine lv_istore (pc := 94) (lv' := [(4, .int u20), (0, .ref x0), (1, .int x1), (2, .int x2), (3, .int x3)]) hx hb dX5_layPaired_94 hl (by decide) rfl (fun ls hl => ?_)
            refine lv_aload_n (pc := 96) hx hb dX5_layPaired_96 rfl (lv_at hl 1 rfl) ?_
            refine x_get (pc := 97) X V okX5 ht13 46 (by decide) q1567 (v := va_rf (R x0 46)) rfl dX5_layPaired_97 ?_
            refine x_topr ha16 ?_
            refine lv_iload_n (pc := 100) hx hb dX5_layPaired_100 rfl (lv_at hl 2 rfl) ?_
            refine lv_iload (pc := 101) hx hb dX5_layPaired_101 (lv_at hl 0 rfl) ?_
            refine lv_aload_n (pc := 103) hx hb dX5_layPaired_103 rfl (lv_at hl 1 rfl) ?_
            refine x_get (pc := 104) X V okX5 ht13 46 (by decide) q1567 (v := va_rf (R x0 46)) rfl dX5_layPaired_104 ?_
            refine x_topr ha16 ?_
            refine lv_iload_n (pc := 107) hx hb dX5_layPaired_107 rfl (lv_at hl 2 rfl) ?_
            replace hf := rA_s hf; obtain ⟨j21, hjj21, htj21, hij21, hf⟩ := hf
            refine x_iald (pc := 108) X V htj21 hij21 hjj21 dX5_layPaired_108 ?_
            refine lv_icmp_ge (pc := 109) (tgt := 117) hx hb dX5_layPaired_109 (by decide) (fun c22 => ?_) (fun c22 => ?_)
            · replace hf := if_t hf c22
              refine lv_aload_n (pc := 117) hx hb dX5_layPaired_117 rfl (lv_at hl 1 rfl) ?_
              refine x_get (pc := 118) X V okX5 ht13 46 (by decide) q1567 (v := va_rf (R x0 46)) rfl dX5_layPaired_118 ?_
              refine x_topr ha16 ?_
              refine lv_iload_n (pc := 121) hx hb dX5_layPaired_121 rfl (lv_at hl 2 rfl) ?_
              refine x_iald (pc := 122) X V htj21 hij21 hjj21 dX5_layPaired_122 ?_
              replace hf := nm_s hf; obtain ⟨I23, hI23, hf⟩ := hf
              refine x_iast (pc := 123) X V htj21 hij21 hjj21 hI23 dX5_layPaired_123 (fun H locs V => ?_)
              replace hf := nm_s hf; obtain ⟨u24, hu24, hf⟩ := hf
              refine lv_iinc (pc := 124) (v := u24) (lv' := [(3, .int u24), (4, .int u20), (0, .ref x0), (1, .int x1), (2, .int x2)]) hx hb dX5_layPaired_124 hl (k := 4) rfl (by rw [hu24]; rfl) (by decide) rfl (fun ls hl => ?_)
              refine lv_goto (pc := 127) (tgt := 36) hx hb dX5_layPaired_127 (by decide) ?_
              exact ih hf V (lv_sub hl [2, 3, 4, 0] rfl)
            · replace hf := if_f hf c22
              refine lv_iload (pc := 112) hx hb dX5_layPaired_112 (lv_at hl 0 rfl) ?_
              refine lv_goto (pc := 114) (tgt := 123) hx hb dX5_layPaired_114 (by decide) ?_
              replace hf := nm_s hf; obtain ⟨I25, hI25, hf⟩ := hf
              refine x_iast (pc := 123) X V htj21 hij21 hjj21 hI25 dX5_layPaired_123 (fun H locs V => ?_)
              replace hf := nm_s hf; obtain ⟨u26, hu26, hf⟩ := hf
              refine lv_iinc (pc := 124) (v := u26) (lv' := [(3, .int u26), (4, .int u20), (0, .ref x0), (1, .int x1), (2, .int x2)]) hx hb dX5_layPaired_124 hl (k := 4) rfl (by rw [hu26]; rfl) (by decide) rfl (fun ls hl => ?_)
              refine lv_goto (pc := 127) (tgt := 36) hx hb dX5_layPaired_127 (by decide) ?_
              exact ih hf V (lv_sub hl [2, 3, 4, 0] rfl)
set_option maxHeartbeats 400000 in
set_option maxRecDepth 100000 in
theorem wX5_layPaired_b28 {nf : Nat} {p : Program} {l : Launch} {e : Env} {s : State} {m : MethodId} {args : Array Value} {below : List Frame} {meth : Method} {c : Code} {D : va_G} {dA : Nat → ClassId} {s0 : Nat} {T : xT} {N : xT} {Z : Nat} {L : xL} {R : xR} {kk2 : xI → Nat → Int32 → Option (xI)} {Io : xI} (X : Cx D dA s0 p m c cX5_layPaired 5 s args RX5 meth) (hr : meth.sig.returnType = none) (hk2 : ∀ {I : xI} {x0 : Nat} {x1 : Int32} {H : Heap} {locs : List Loc} {ls : Array Slot} , kk2 I x0 x1 = some Io → Iv D dA s0 s T N Z I L R H locs → lv_has ls 5 [(0, .ref x0), (1, .int x1)] → W p l e { frames := 1, cells := 0, slots := 0, locals := 22 } s m args below meth c H locs 0 0 (MQ below (xQ D dA s0 none T N Z Io L R) args s 0 0 (fun q => s0 ≤ q)) (F0 m 2 ls []))  (k : Nat) : ∀ {I : xI} {x0 : Nat} {x1 : Int32} {x2 : Int32} {H : Heap} {locs : List Loc} {ls : Array Slot} , fX5_layPaired_b28 nf kk2 T N R k I x0 x1 x2 = some Io → Iv D dA s0 s T N Z I L R H locs → lv_has ls 5 [(0, .ref x0), (1, .int x1), (2, .int x2)] → W p l e { frames := 1, cells := 0, slots := 0, locals := 22 } s m args below meth c H locs 0 0 (MQ below (xQ D dA s0 none T N Z Io L R) args s 0 0 (fun q => s0 ≤ q)) (F0 m 28 ls []) := by
  have hx := X.1.1
  have hb := X.1.2.1
  induction k with
  | zero =>
    intro I x0 x1 x2 H locs ls hf V hl
    exact absurd (show none = some _ from hf) (fun q => nomatch q)
  | succ k ih =>
    intro I x0 x1 x2 H locs ls hf V hl
    rw [fX5_layPaired_b28] at hf
    refine lv_iload_n (pc := 28) hx hb dX5_layPaired_28 rfl (lv_at hl 2 rfl) ?_
    refine lv_bipush (pc := 29) (v := (ii 8)) hx hb dX5_layPaired_29 (by decide) ?_
    refine lv_icmp_ge (pc := 31) (tgt := 136) hx hb dX5_layPaired_31 (by decide) (fun c1 => ?_) (fun c1 => ?_)
    · replace hf := if_t hf c1
      replace hf := nm_s hf; obtain ⟨u2, hu2, hf⟩ := hf
      refine lv_iinc (pc := 136) (v := u2) (lv' := [(1, .int u2), (0, .ref x0), (2, .int x2)]) hx hb dX5_layPaired_136 hl (k := 1) rfl (by rw [hu2]; rfl) (by decide) rfl (fun ls hl => ?_)
      refine lv_goto (pc := 139) (tgt := 2) hx hb dX5_layPaired_139 (by decide) ?_
      exact hk2 hf V (lv_sub hl [1, 0] rfl)
    · replace hf := if_f hf c1
      refine lv_iconst (pc := 34) (v := (ii 0)) hx hb dX5_layPaired_34 (by decide) ?_
      refine lv_istore_n (pc := 35) (lv' := [(3, .int (ii 0)), (0, .ref x0), (1, .int x1), (2, .int x2)]) hx hb dX5_layPaired_35 rfl hl (by decide) rfl (fun ls hl => ?_)
      exact wX5_layPaired_b36 X hr hk2 ih nf hf V (lv_sub hl [1, 2, 3, 0] rfl)
set_option maxHeartbeats 400000 in
set_option maxRecDepth 100000 in
theorem wX5_layPaired_b2 {nf : Nat} {p : Program} {l : Launch} {e : Env} {s : State} {m : MethodId} {args : Array Value} {below : List Frame} {meth : Method} {c : Code} {D : va_G} {dA : Nat → ClassId} {s0 : Nat} {T : xT} {N : xT} {Z : Nat} {L : xL} {R : xR}  {Io : xI} (X : Cx D dA s0 p m c cX5_layPaired 5 s args RX5 meth) (hr : meth.sig.returnType = none)   (k : Nat) : ∀ {I : xI} {x0 : Nat} {x1 : Int32} {H : Heap} {locs : List Loc} {ls : Array Slot} , fX5_layPaired_b2 nf T N R k I x0 x1 = some Io → Iv D dA s0 s T N Z I L R H locs → lv_has ls 5 [(0, .ref x0), (1, .int x1)] → W p l e { frames := 1, cells := 0, slots := 0, locals := 22 } s m args below meth c H locs 0 0 (MQ below (xQ D dA s0 none T N Z Io L R) args s 0 0 (fun q => s0 ≤ q)) (F0 m 2 ls []) := by
  have hx := X.1.1
  have hb := X.1.2.1
  induction k with
  | zero =>
    intro I x0 x1 H locs ls hf V hl
    exact absurd (show none = some _ from hf) (fun q => nomatch q)
  | succ k ih =>
    intro I x0 x1 H locs ls hf V hl
    rw [fX5_layPaired_b2] at hf
    refine lv_iload_n (pc := 2) hx hb dX5_layPaired_2 rfl (lv_at hl 1 rfl) ?_
    refine lv_sipush (pc := 3) (v := (ii 256)) hx hb dX5_layPaired_3 (by decide) ?_
    refine lv_icmp_ge (pc := 6) (tgt := 142) hx hb dX5_layPaired_6 (by decide) (fun c1 => ?_) (fun c1 => ?_)
    · replace hf := if_t hf c1
      cases hf
      exact x_vret (pc := 142) X V hr dX5_layPaired_142
    · replace hf := if_f hf c1
      refine lv_aload_n (pc := 9) hx hb dX5_layPaired_9 rfl (lv_at hl 0 rfl) ?_
      replace hf := tg_s hf; obtain ⟨ht2, hf⟩ := hf
      replace hf := bs hf; obtain ⟨a3, ha3, hf⟩ := hf
      refine x_get (pc := 10) X V okX5 ht2 46 (by decide) q1567 (v := va_rf (R x0 46)) rfl dX5_layPaired_10 ?_
      refine x_topr ha3 ?_
      refine lv_iload_n (pc := 13) hx hb dX5_layPaired_13 rfl (lv_at hl 1 rfl) ?_
      refine lv_iload_n (pc := 14) hx hb dX5_layPaired_14 rfl (lv_at hl 1 rfl) ?_
      refine lv_if_ne (pc := 15) (tgt := 22) hx hb dX5_layPaired_15 (by decide) (fun c4 => ?_) (fun c4 => ?_)
      · replace hf := if_f hf c4
        refine lv_ldcw (pc := 22) (v := (ii 100000000)) hx hb X.1.2.2.2.1 (X.1.2.2.2.2 _ q2038) dX5_layPaired_22 ?_
        replace hf := rA_s hf; obtain ⟨j5, hjj5, htj5, hij5, hf⟩ := hf
        replace hf := nm_s hf; obtain ⟨I6, hI6, hf⟩ := hf
        refine x_iast (pc := 25) X V htj5 hij5 hjj5 hI6 dX5_layPaired_25 (fun H locs V => ?_)
        refine lv_iconst (pc := 26) (v := (ii 0)) hx hb dX5_layPaired_26 (by decide) ?_
        refine lv_istore_n (pc := 27) (lv' := [(2, .int (ii 0)), (0, .ref x0), (1, .int x1)]) hx hb dX5_layPaired_27 rfl hl (by decide) rfl (fun ls hl => ?_)
        exact wX5_layPaired_b28 X hr ih nf hf V (lv_sub hl [1, 2, 0] rfl)
      · replace hf := if_t hf c4
        refine lv_iconst (pc := 18) (v := (ii 0)) hx hb dX5_layPaired_18 (by decide) ?_
        refine lv_goto (pc := 19) (tgt := 25) hx hb dX5_layPaired_19 (by decide) ?_
        replace hf := rA_s hf; obtain ⟨j7, hjj7, htj7, hij7, hf⟩ := hf
        replace hf := nm_s hf; obtain ⟨I8, hI8, hf⟩ := hf
        refine x_iast (pc := 25) X V htj7 hij7 hjj7 hI8 dX5_layPaired_25 (fun H locs V => ?_)
        refine lv_iconst (pc := 26) (v := (ii 0)) hx hb dX5_layPaired_26 (by decide) ?_
        refine lv_istore_n (pc := 27) (lv' := [(2, .int (ii 0)), (0, .ref x0), (1, .int x1)]) hx hb dX5_layPaired_27 rfl hl (by decide) rfl (fun ls hl => ?_)
        exact wX5_layPaired_b28 X hr ih nf hf V (lv_sub hl [1, 2, 0] rfl)
set_option maxHeartbeats 400000 in
set_option maxRecDepth 100000 in
theorem wX5_layPaired_e {nf : Nat} {p : Program} {l : Launch} {e : Env} {s : State} {m : MethodId} {args : Array Value} {below : List Frame} {meth : Method} {c : Code} {D : va_G} {dA : Nat → ClassId} {s0 : Nat} {T : xT} {N : xT} {Z : Nat} {I : xI} {L : xL} {R : xR} {H : Heap} {locs : List Loc} {ls : Array Slot} {x0 : Nat} {Io : xI} (X : Cx D dA s0 p m c cX5_layPaired 5 s args RX5 meth) (hr : meth.sig.returnType = none) (hf : fX5_layPaired nf T N I R x0 = some Io) (V : Iv D dA s0 s T N Z I L R H locs) (hl : lv_has ls 5 [(0, .ref x0)]) : W p l e { frames := 1, cells := 0, slots := 0, locals := 22 } s m args below meth c H locs 0 0 (MQ below (xQ D dA s0 none T N Z Io L R) args s 0 0 (fun q => s0 ≤ q)) (F0 m 0 ls []) := by
  have hx := X.1.1
  have hb := X.1.2.1
  unfold fX5_layPaired at hf
  refine lv_iconst (pc := 0) (v := (ii 0)) hx hb dX5_layPaired_0 (by decide) ?_
  refine lv_istore_n (pc := 1) (lv' := [(1, .int (ii 0)), (0, .ref x0)]) hx hb dX5_layPaired_1 rfl hl (by decide) rfl (fun ls hl => ?_)
  exact wX5_layPaired_b2 X hr nf hf V (lv_sub hl [1, 0] rfl)
theorem mX5_layPaired {nf : Nat} (l : Launch) (D : va_G) (dA : Nat → ClassId) (s0 : Nat) {T : xT} {N : xT} {Z : Nat} {I : xI} {L : xL} {R : xR} {x0 : Nat} {Io : xI} (hf : fX5_layPaired nf T N I R x0 = some Io) : XMet l D dA s0 yX5_layPaired (ws_ yX5_layPaired cX5_layPaired 5 (none)) (1) (22) [.ref x0] T N Z I L R none T N Z Io L R 0 0 :=
  x_start (own := RX5) rfl (by decide) (Nat.le_of_ble_eq_true rfl) (lv := [(0, .ref x0)]) rfl (fun p e s m below meth c ls X hr hini V hl => wX5_layPaired_e X hr hf V hl)
set_option maxHeartbeats 400000 in
set_option maxRecDepth 100000 in
theorem wX5_round_b50 {nf : Nat} {p : Program} {l : Launch} {e : Env} {s : State} {m : MethodId} {args : Array Value} {below : List Frame} {meth : Method} {c : Code} {D : va_G} {dA : Nat → ClassId} {s0 : Nat} {T : xT} {N : xT} {Z : Nat} {L : xL} {R : xR}  {ro : Int32} {Io : xI} (X : Cx D dA s0 p m c cX5_round 4 s args RX5 meth) (hr : meth.sig.returnType = (some .int))   (k : Nat) : ∀ {I : xI} {x0 : Nat} {x1 : Int32} {x2 : Int32} {x3 : Int32} {H : Heap} {locs : List Loc} {ls : Array Slot} , fX5_round_b50 nf T N R k I x0 x1 x2 x3 = some (ro, Io) → Iv D dA s0 s T N Z I L R H locs → lv_has ls 4 [(0, .ref x0), (1, .int x1), (2, .int x2), (3, .int x3)] → W p l e { frames := 2, cells := 0, slots := 0, locals := 46 } s m args below meth c H locs 0 0 (MQ below (xQ D dA s0 (some (.int ro)) T N Z Io L R) args s 0 0 (fun q => s0 ≤ q)) (F0 m 50 ls []) := by
  have hx := X.1.1
  have hb := X.1.2.1
  induction k with
  | zero =>
    intro I x0 x1 x2 x3 H locs ls hf V hl
    exact absurd (show none = some _ from hf) (fun q => nomatch q)
  | succ k ih =>
    intro I x0 x1 x2 x3 H locs ls hf V hl
    rw [fX5_round_b50] at hf
    refine lv_iload_n (pc := 50) hx hb dX5_round_50 rfl (lv_at hl 3 rfl) ?_
    refine lv_aload_n (pc := 51) hx hb dX5_round_51 rfl (lv_at hl 0 rfl) ?_
    replace hf := tg_s hf; obtain ⟨ht1, hf⟩ := hf
    replace hf := bs hf; obtain ⟨a2, ha2, hf⟩ := hf
    refine x_get (pc := 52) X V okX5 ht1 3 (by decide) q1524 (v := va_rf (R x0 3)) rfl dX5_round_52 ?_
    refine x_topr ha2 ?_
    refine lv_iconst (pc := 55) (v := (ii 0)) hx hb dX5_round_55 (by decide) ?_
    replace hf := rA_s hf; obtain ⟨j3, hjj3, htj3, hij3, hf⟩ := hf
    refine x_iald (pc := 56) X V htj3 hij3 hjj3 dX5_round_56 ?_
    refine lv_icmp_ge (pc := 57) (tgt := 106) hx hb dX5_round_57 (by decide) (fun c4 => ?_) (fun c4 => ?_)
    · replace hf := if_t hf c4
      refine lv_aload_n (pc := 106) hx hb dX5_round_106 rfl (lv_at hl 0 rfl) ?_
      replace hf := bs hf; obtain ⟨I5, hk_6, hf⟩ := hf
      refine x_callV0 (pc := 107) (As := []) (rest := []) X V (mX5_layPaired l D dA s0 hk_6) okX5 ht1 q2140 q2142 qs109 q129 q2143 ⟨rfl, hsX5_layPaired⟩ ⟨Nat.le_of_ble_eq_true rfl, Nat.le_of_ble_eq_true rfl⟩ rfl hl.1 rfl (Nat.le_of_ble_eq_true rfl) dX5_round_107 ⟨Nat.zero_le _, Nat.zero_le _⟩ (fun H locs V => W.eq (g2 := F0 m 110 ls []) rfl ?_)
      refine lv_iload_n (pc := 110) hx hb dX5_round_110 rfl (lv_at hl 2 rfl) ?_
      refine lv_aload_n (pc := 111) hx hb dX5_round_111 rfl (lv_at hl 0 rfl) ?_
      replace hf := bs hf; obtain ⟨a7, ha7, hf⟩ := hf
      refine x_get (pc := 112) X V okX5 ht1 46 (by decide) q1567 (v := va_rf (R x0 46)) rfl dX5_round_112 ?_
      refine x_topr ha7 ?_
      refine lv_iload_n (pc := 115) hx hb dX5_round_115 rfl (lv_at hl 1 rfl) ?_
      replace hf := rA_s hf; obtain ⟨j8, hjj8, htj8, hij8, hf⟩ := hf
      refine x_iald (pc := 116) X V htj8 hij8 hjj8 dX5_round_116 ?_
      refine lv_iadd (pc := 117) hx hb dX5_round_117 ?_
      cases hf
      exact x_iret (pc := 118) X V hr dX5_round_118
    · replace hf := if_f hf c4
      refine lv_iload_n (pc := 60) hx hb dX5_round_60 rfl (lv_at hl 2 rfl) ?_
      refine lv_aload_n (pc := 61) hx hb dX5_round_61 rfl (lv_at hl 0 rfl) ?_
      refine x_get (pc := 62) X V okX5 ht1 3 (by decide) q1524 (v := va_rf (R x0 3)) rfl dX5_round_62 ?_
      refine x_topr ha2 ?_
      refine lv_bipush (pc := 65) (v := (ii 46)) hx hb dX5_round_65 (by decide) ?_
      refine lv_iload_n (pc := 67) hx hb dX5_round_67 rfl (lv_at hl 3 rfl) ?_
      refine lv_iadd (pc := 68) hx hb dX5_round_68 ?_
      replace hf := rA_s hf; obtain ⟨j9, hjj9, htj9, hij9, hf⟩ := hf
      refine x_iald (pc := 69) X V htj9 hij9 hjj9 dX5_round_69 ?_
      refine lv_iadd (pc := 70) hx hb dX5_round_70 ?_
      replace hf := nm_s hf; obtain ⟨u10, hu10, hf⟩ := hf
      refine x_topi hu10 ?_
      refine lv_istore_n (pc := 71) (lv' := [(2, .int u10), (0, .ref x0), (1, .int x1), (3, .int x3)]) hx hb dX5_round_71 rfl hl (by decide) rfl (fun ls hl => ?_)
      refine lv_aload_n (pc := 72) hx hb dX5_round_72 rfl (lv_at hl 1 rfl) ?_
      refine lv_aload_n (pc := 73) hx hb dX5_round_73 rfl (lv_at hl 1 rfl) ?_
      refine x_get (pc := 74) X V okX5 ht1 3 (by decide) q1524 (v := va_rf (R x0 3)) rfl dX5_round_74 ?_
      refine x_topr ha2 ?_
      refine lv_bipush (pc := 77) (v := (ii 26)) hx hb dX5_round_77 (by decide) ?_
      replace hf := rA_s hf; obtain ⟨j11, hjj11, htj11, hij11, hf⟩ := hf
      refine x_iald (pc := 79) X V htj11 hij11 hjj11 dX5_round_79 ?_
      refine lv_aload_n (pc := 80) hx hb dX5_round_80 rfl (lv_at hl 1 rfl) ?_
      refine x_get (pc := 81) X V okX5 ht1 3 (by decide) q1524 (v := va_rf (R x0 3)) rfl dX5_round_81 ?_
      refine x_topr ha2 ?_
      refine lv_bipush (pc := 84) (v := (ii 26)) hx hb dX5_round_84 (by decide) ?_
      refine lv_iload_n (pc := 86) hx hb dX5_round_86 rfl (lv_at hl 3 rfl) ?_
      refine lv_iadd (pc := 87) hx hb dX5_round_87 ?_
      replace hf := rA_s hf; obtain ⟨j12, hjj12, htj12, hij12, hf⟩ := hf
      refine x_iald (pc := 88) X V htj12 hij12 hjj12 dX5_round_88 ?_
      replace hf := bs hf; obtain ⟨r13, hk_14, hf⟩ := hf
      refine x_callV0 (pc := 89) (As := [.int (I a2 j11), .int (I a2 j12)]) (rest := []) X V (mX5_farOf l D dA s0 hk_14) okX5 ht1 q2039 q2041 qs98 q129 q2042 ⟨rfl, hsX5_farOf⟩ ⟨Nat.le_of_ble_eq_true rfl, Nat.le_of_ble_eq_true rfl⟩ rfl hl.1 rfl (Nat.le_of_ble_eq_true rfl) dX5_round_89 ⟨Nat.zero_le _, Nat.zero_le _⟩ (fun H locs V => W.eq (g2 := F0 m 92 ls [.int r13]) rfl ?_)
      refine lv_ldcw (pc := 92) (v := (ii 100000000)) hx hb X.1.2.2.2.1 (X.1.2.2.2.2 _ q2038) dX5_round_92 ?_
      refine lv_icmp_ne (pc := 95) (tgt := 100) hx hb dX5_round_95 (by decide) (fun c15 => ?_) (fun c15 => ?_)
      · replace hf := if_f hf c15
        replace hf := nm_s hf; obtain ⟨u16, hu16, hf⟩ := hf
        refine lv_iinc (pc := 100) (v := u16) (lv' := [(3, .int u16), (2, .int u10), (0, .ref x0), (1, .int x1)]) hx hb dX5_round_100 hl (k := 3) rfl (by rw [hu16]; rfl) (by decide) rfl (fun ls hl => ?_)
        refine lv_goto (pc := 103) (tgt := 50) hx hb dX5_round_103 (by decide) ?_
        exact ih hf V (lv_sub hl [2, 3, 1, 0] rfl)
      · replace hf := if_t hf c15
        refine lv_iconst (pc := 98) (v := (-1 : Int32)) hx hb dX5_round_98 (by decide) ?_
        cases hf
        exact x_iret (pc := 99) X V hr dX5_round_99
set_option maxHeartbeats 400000 in
set_option maxRecDepth 100000 in
theorem wX5_round_b15 {nf : Nat} {p : Program} {l : Launch} {e : Env} {s : State} {m : MethodId} {args : Array Value} {below : List Frame} {meth : Method} {c : Code} {D : va_G} {dA : Nat → ClassId} {s0 : Nat} {T : xT} {N : xT} {Z : Nat} {L : xL} {R : xR}  {ro : Int32} {Io : xI} (X : Cx D dA s0 p m c cX5_round 4 s args RX5 meth) (hr : meth.sig.returnType = (some .int))   (k : Nat) : ∀ {I : xI} {x0 : Nat} {x1 : Int32} {x2 : Int32} {x3 : Int32} {H : Heap} {locs : List Loc} {ls : Array Slot} , fX5_round_b15 nf T N R k I x0 x1 x2 x3 = some (ro, Io) → Iv D dA s0 s T N Z I L R H locs → lv_has ls 4 [(0, .ref x0), (1, .int x1), (2, .int x2), (3, .int x3)] → W p l e { frames := 2, cells := 0, slots := 0, locals := 46 } s m args below meth c H locs 0 0 (MQ below (xQ D dA s0 (some (.int ro)) T N Z Io L R) args s 0 0 (fun q => s0 ≤ q)) (F0 m 15 ls []) := by
  have hx := X.1.1
  have hb := X.1.2.1
  induction k with
  | zero =>
    intro I x0 x1 x2 x3 H locs ls hf V hl
    exact absurd (show none = some _ from hf) (fun q => nomatch q)
  | succ k ih =>
    intro I x0 x1 x2 x3 H locs ls hf V hl
    rw [fX5_round_b15] at hf
    refine lv_iload_n (pc := 15) hx hb dX5_round_15 rfl (lv_at hl 3 rfl) ?_
    refine lv_bipush (pc := 16) (v := (ii 8)) hx hb dX5_round_16 (by decide) ?_
    refine lv_icmp_ge (pc := 18) (tgt := 48) hx hb dX5_round_18 (by decide) (fun c1 => ?_) (fun c1 => ?_)
    · replace hf := if_t hf c1
      refine lv_iconst (pc := 48) (v := (ii 0)) hx hb dX5_round_48 (by decide) ?_
      refine lv_istore_n (pc := 49) (lv' := [(3, .int (ii 0)), (0, .ref x0), (1, .int x1), (2, .int x2)]) hx hb dX5_round_49 rfl hl (by decide) rfl (fun ls hl => ?_)
      exact wX5_round_b50 X hr nf hf V (lv_sub hl [1, 2, 3, 0] rfl)
    · replace hf := if_f hf c1
      refine lv_iload_n (pc := 21) hx hb dX5_round_21 rfl (lv_at hl 1 rfl) ?_
      refine lv_aload_n (pc := 22) hx hb dX5_round_22 rfl (lv_at hl 0 rfl) ?_
      refine lv_iload_n (pc := 23) hx hb dX5_round_23 rfl (lv_at hl 3 rfl) ?_
      replace hf := tg_s hf; obtain ⟨ht4, hf⟩ := hf
      replace hf := bs hf; obtain ⟨r2, hk_3, hf⟩ := hf
      refine x_callV0 (pc := 24) (As := [.int x3]) (rest := [.int x1]) X V (mX5_laneEnds l D dA s0 hk_3) okX5 ht4 q2067 q2069 qs101 q129 q2070 ⟨rfl, hsX5_laneEnds⟩ ⟨Nat.le_of_ble_eq_true rfl, Nat.le_of_ble_eq_true rfl⟩ rfl hl.1 rfl (Nat.le_of_ble_eq_true rfl) dX5_round_24 ⟨Nat.zero_le _, Nat.zero_le _⟩ (fun H locs V => W.eq (g2 := F0 m 27 ls [.int r2, .int x1]) rfl ?_)
      refine lv_iconst (pc := 27) (v := (ii 2)) hx hb dX5_round_27 (by decide) ?_
      refine lv_irem (pc := 28) hx hb dX5_round_28 (by decide) ?_
      refine lv_iconst (pc := 29) (v := (ii 1)) hx hb dX5_round_29 (by decide) ?_
      refine lv_icmp_ne (pc := 30) (tgt := 39) hx hb dX5_round_30 (by decide) (fun c5 => ?_) (fun c5 => ?_)
      · replace hf := if_f hf c5
        refine lv_iconst (pc := 39) (v := (ii 0)) hx hb dX5_round_39 (by decide) ?_
        refine lv_ior (pc := 40) hx hb dX5_round_40 ?_
        replace hf := nm_s hf; obtain ⟨u6, hu6, hf⟩ := hf
        refine x_topi hu6 ?_
        refine lv_istore_n (pc := 41) (lv' := [(1, .int u6), (0, .ref x0), (2, .int x2), (3, .int x3)]) hx hb dX5_round_41 rfl hl (by decide) rfl (fun ls hl => ?_)
        replace hf := nm_s hf; obtain ⟨u7, hu7, hf⟩ := hf
        refine lv_iinc (pc := 42) (v := u7) (lv' := [(3, .int u7), (1, .int u6), (0, .ref x0), (2, .int x2)]) hx hb dX5_round_42 hl (k := 3) rfl (by rw [hu7]; rfl) (by decide) rfl (fun ls hl => ?_)
        refine lv_goto (pc := 45) (tgt := 15) hx hb dX5_round_45 (by decide) ?_
        exact ih hf V (lv_sub hl [2, 1, 3, 0] rfl)
      · replace hf := if_t hf c5
        refine lv_iconst (pc := 33) (v := (ii 1)) hx hb dX5_round_33 (by decide) ?_
        refine lv_iload_n (pc := 34) hx hb dX5_round_34 rfl (lv_at hl 3 rfl) ?_
        refine lv_ishl (pc := 35) hx hb dX5_round_35 ?_
        refine lv_goto (pc := 36) (tgt := 40) hx hb dX5_round_36 (by decide) ?_
        refine lv_ior (pc := 40) hx hb dX5_round_40 ?_
        replace hf := nm_s hf; obtain ⟨u8, hu8, hf⟩ := hf
        refine x_topi hu8 ?_
        refine lv_istore_n (pc := 41) (lv' := [(1, .int u8), (0, .ref x0), (2, .int x2), (3, .int x3)]) hx hb dX5_round_41 rfl hl (by decide) rfl (fun ls hl => ?_)
        replace hf := nm_s hf; obtain ⟨u9, hu9, hf⟩ := hf
        refine lv_iinc (pc := 42) (v := u9) (lv' := [(3, .int u9), (1, .int u8), (0, .ref x0), (2, .int x2)]) hx hb dX5_round_42 hl (k := 3) rfl (by rw [hu9]; rfl) (by decide) rfl (fun ls hl => ?_)
        refine lv_goto (pc := 45) (tgt := 15) hx hb dX5_round_45 (by decide) ?_
        exact ih hf V (lv_sub hl [2, 1, 3, 0] rfl)
set_option maxHeartbeats 400000 in
set_option maxRecDepth 100000 in
theorem wX5_round_e {nf : Nat} {p : Program} {l : Launch} {e : Env} {s : State} {m : MethodId} {args : Array Value} {below : List Frame} {meth : Method} {c : Code} {D : va_G} {dA : Nat → ClassId} {s0 : Nat} {T : xT} {N : xT} {Z : Nat} {I : xI} {L : xL} {R : xR} {H : Heap} {locs : List Loc} {ls : Array Slot} {x0 : Nat} {ro : Int32} {Io : xI} (X : Cx D dA s0 p m c cX5_round 4 s args RX5 meth) (hr : meth.sig.returnType = (some .int)) (hf : fX5_round nf T N I R x0 = some (ro, Io)) (V : Iv D dA s0 s T N Z I L R H locs) (hl : lv_has ls 4 [(0, .ref x0)]) : W p l e { frames := 2, cells := 0, slots := 0, locals := 46 } s m args below meth c H locs 0 0 (MQ below (xQ D dA s0 (some (.int ro)) T N Z Io L R) args s 0 0 (fun q => s0 ≤ q)) (F0 m 0 ls []) := by
  have hx := X.1.1
  have hb := X.1.2.1
  unfold fX5_round at hf
  refine lv_aload_n (pc := 0) hx hb dX5_round_0 rfl (lv_at hl 0 rfl) ?_
  refine lv_iconst (pc := 1) (v := (ii 0)) hx hb dX5_round_1 (by decide) ?_
  replace hf := tg_s hf; obtain ⟨ht1, hf⟩ := hf
  replace hf := nm_s hf; obtain ⟨I2, hI2, hf⟩ := hf
  refine x_puti (pc := 2) X V okX5 (by decide) ht1 0 (by decide) q1521 (Or.inl rfl) hI2 (fun _ _ _ => rfl) rfl rfl dX5_round_2 (fun H locs V => ?_)
  refine lv_aload_n (pc := 5) hx hb dX5_round_5 rfl (lv_at hl 0 rfl) ?_
  replace hf := bs hf; obtain ⟨I3, hk_4, hf⟩ := hf
  refine x_callV0 (pc := 6) (As := []) (rest := []) X V (mX5_layFar l D dA s0 hk_4) okX5 ht1 q2034 q2036 qs97 q129 q2037 ⟨rfl, hsX5_layFar⟩ ⟨Nat.le_of_ble_eq_true rfl, Nat.le_of_ble_eq_true rfl⟩ rfl hl.1 rfl (Nat.le_of_ble_eq_true rfl) dX5_round_6 ⟨Nat.zero_le _, Nat.zero_le _⟩ (fun H locs V => W.eq (g2 := F0 m 9 ls []) rfl ?_)
  refine lv_iconst (pc := 9) (v := (ii 0)) hx hb dX5_round_9 (by decide) ?_
  refine lv_istore_n (pc := 10) (lv' := [(1, .int (ii 0)), (0, .ref x0)]) hx hb dX5_round_10 rfl hl (by decide) rfl (fun ls hl => ?_)
  refine lv_iconst (pc := 11) (v := (ii 0)) hx hb dX5_round_11 (by decide) ?_
  refine lv_istore_n (pc := 12) (lv' := [(2, .int (ii 0)), (1, .int (ii 0)), (0, .ref x0)]) hx hb dX5_round_12 rfl hl (by decide) rfl (fun ls hl => ?_)
  refine lv_iconst (pc := 13) (v := (ii 0)) hx hb dX5_round_13 (by decide) ?_
  refine lv_istore_n (pc := 14) (lv' := [(3, .int (ii 0)), (2, .int (ii 0)), (1, .int (ii 0)), (0, .ref x0)]) hx hb dX5_round_14 rfl hl (by decide) rfl (fun ls hl => ?_)
  exact wX5_round_b15 X hr nf hf V (lv_sub hl [3, 2, 1, 0] rfl)
theorem mX5_round {nf : Nat} (l : Launch) (D : va_G) (dA : Nat → ClassId) (s0 : Nat) {T : xT} {N : xT} {Z : Nat} {I : xI} {L : xL} {R : xR} {x0 : Nat} {ro : Int32} {Io : xI} (hf : fX5_round nf T N I R x0 = some (ro, Io)) : XMet l D dA s0 yX5_round (ws_ yX5_round cX5_round 4 ((some .int))) (2) (46) [.ref x0] T N Z I L R (some (.int ro)) T N Z Io L R 0 0 :=
  x_start (own := RX5) rfl (by decide) (Nat.le_of_ble_eq_true rfl) (lv := [(0, .ref x0)]) rfl (fun p e s m below meth c ls X hr hini V hl => wX5_round_e X hr hf V hl)
set_option maxHeartbeats 400000 in
set_option maxRecDepth 100000 in
theorem wX5_dead_b9 {nf : Nat} {p : Program} {l : Launch} {e : Env} {s : State} {m : MethodId} {args : Array Value} {below : List Frame} {meth : Method} {c : Code} {D : va_G} {dA : Nat → ClassId} {s0 : Nat} {T : xT} {N : xT} {Z : Nat} {L : xL} {R : xR}  {ro : Int32} {Io : xI} (X : Cx D dA s0 p m c cX5_dead 3 s args RX5 meth) (hr : meth.sig.returnType = (some .int))   (k : Nat) : ∀ {I : xI} {x0 : Nat} {x1 : Int32} {x2 : Int32} {H : Heap} {locs : List Loc} {ls : Array Slot} , fX5_dead_b9 nf T N R k I x0 x1 x2 = some (ro, Io) → Iv D dA s0 s T N Z I L R H locs → lv_has ls 3 [(0, .ref x0), (1, .int x1), (2, .int x2)] → W p l e { frames := 2, cells := 0, slots := 0, locals := 45 } s m args below meth c H locs 0 0 (MQ below (xQ D dA s0 (some (.int ro)) T N Z Io L R) args s 0 0 (fun q => s0 ≤ q)) (F0 m 9 ls []) := by
  have hx := X.1.1
  have hb := X.1.2.1
  induction k with
  | zero =>
    intro I x0 x1 x2 H locs ls hf V hl
    exact absurd (show none = some _ from hf) (fun q => nomatch q)
  | succ k ih =>
    intro I x0 x1 x2 H locs ls hf V hl
    rw [fX5_dead_b9] at hf
    refine lv_iload_n (pc := 9) hx hb dX5_dead_9 rfl (lv_at hl 2 rfl) ?_
    refine lv_bipush (pc := 10) (v := (ii 8)) hx hb dX5_dead_10 (by decide) ?_
    refine lv_icmp_ge (pc := 12) (tgt := 40) hx hb dX5_dead_12 (by decide) (fun c1 => ?_) (fun c1 => ?_)
    · replace hf := if_t hf c1
      refine lv_iload_n (pc := 40) hx hb dX5_dead_40 rfl (lv_at hl 1 rfl) ?_
      cases hf
      exact x_iret (pc := 41) X V hr dX5_dead_41
    · replace hf := if_f hf c1
      refine lv_iload_n (pc := 15) hx hb dX5_dead_15 rfl (lv_at hl 1 rfl) ?_
      refine lv_aload_n (pc := 16) hx hb dX5_dead_16 rfl (lv_at hl 0 rfl) ?_
      refine lv_iload_n (pc := 17) hx hb dX5_dead_17 rfl (lv_at hl 2 rfl) ?_
      replace hf := tg_s hf; obtain ⟨ht4, hf⟩ := hf
      replace hf := bs hf; obtain ⟨r2, hk_3, hf⟩ := hf
      refine x_callV0 (pc := 18) (As := [.int x2]) (rest := [.int x1]) X V (mX5_laneEnds l D dA s0 hk_3) okX5 ht4 q2067 q2069 qs101 q129 q2070 ⟨rfl, hsX5_laneEnds⟩ ⟨Nat.le_of_ble_eq_true rfl, Nat.le_of_ble_eq_true rfl⟩ rfl hl.1 rfl (Nat.le_of_ble_eq_true rfl) dX5_dead_18 ⟨Nat.zero_le _, Nat.zero_le _⟩ (fun H locs V => W.eq (g2 := F0 m 21 ls [.int r2, .int x1]) rfl ?_)
      refine lv_iconst (pc := 21) (v := (ii 1)) hx hb dX5_dead_21 (by decide) ?_
      refine lv_icmp_ne (pc := 22) (tgt := 31) hx hb dX5_dead_22 (by decide) (fun c5 => ?_) (fun c5 => ?_)
      · replace hf := if_f hf c5
        refine lv_iconst (pc := 31) (v := (ii 0)) hx hb dX5_dead_31 (by decide) ?_
        refine lv_ior (pc := 32) hx hb dX5_dead_32 ?_
        replace hf := nm_s hf; obtain ⟨u6, hu6, hf⟩ := hf
        refine x_topi hu6 ?_
        refine lv_istore_n (pc := 33) (lv' := [(1, .int u6), (0, .ref x0), (2, .int x2)]) hx hb dX5_dead_33 rfl hl (by decide) rfl (fun ls hl => ?_)
        replace hf := nm_s hf; obtain ⟨u7, hu7, hf⟩ := hf
        refine lv_iinc (pc := 34) (v := u7) (lv' := [(2, .int u7), (1, .int u6), (0, .ref x0)]) hx hb dX5_dead_34 hl (k := 2) rfl (by rw [hu7]; rfl) (by decide) rfl (fun ls hl => ?_)
        refine lv_goto (pc := 37) (tgt := 9) hx hb dX5_dead_37 (by decide) ?_
        exact ih hf V (lv_sub hl [2, 1, 0] rfl)
      · replace hf := if_t hf c5
        refine lv_iconst (pc := 25) (v := (ii 1)) hx hb dX5_dead_25 (by decide) ?_
        refine lv_iload_n (pc := 26) hx hb dX5_dead_26 rfl (lv_at hl 2 rfl) ?_
        refine lv_ishl (pc := 27) hx hb dX5_dead_27 ?_
        refine lv_goto (pc := 28) (tgt := 32) hx hb dX5_dead_28 (by decide) ?_
        refine lv_ior (pc := 32) hx hb dX5_dead_32 ?_
        replace hf := nm_s hf; obtain ⟨u8, hu8, hf⟩ := hf
        refine x_topi hu8 ?_
        refine lv_istore_n (pc := 33) (lv' := [(1, .int u8), (0, .ref x0), (2, .int x2)]) hx hb dX5_dead_33 rfl hl (by decide) rfl (fun ls hl => ?_)
        replace hf := nm_s hf; obtain ⟨u9, hu9, hf⟩ := hf
        refine lv_iinc (pc := 34) (v := u9) (lv' := [(2, .int u9), (1, .int u8), (0, .ref x0)]) hx hb dX5_dead_34 hl (k := 2) rfl (by rw [hu9]; rfl) (by decide) rfl (fun ls hl => ?_)
        refine lv_goto (pc := 37) (tgt := 9) hx hb dX5_dead_37 (by decide) ?_
        exact ih hf V (lv_sub hl [2, 1, 0] rfl)
set_option maxHeartbeats 400000 in
set_option maxRecDepth 100000 in
theorem wX5_dead_e {nf : Nat} {p : Program} {l : Launch} {e : Env} {s : State} {m : MethodId} {args : Array Value} {below : List Frame} {meth : Method} {c : Code} {D : va_G} {dA : Nat → ClassId} {s0 : Nat} {T : xT} {N : xT} {Z : Nat} {I : xI} {L : xL} {R : xR} {H : Heap} {locs : List Loc} {ls : Array Slot} {x0 : Nat} {ro : Int32} {Io : xI} (X : Cx D dA s0 p m c cX5_dead 3 s args RX5 meth) (hr : meth.sig.returnType = (some .int)) (hf : fX5_dead nf T N I R x0 = some (ro, Io)) (V : Iv D dA s0 s T N Z I L R H locs) (hl : lv_has ls 3 [(0, .ref x0)]) : W p l e { frames := 2, cells := 0, slots := 0, locals := 45 } s m args below meth c H locs 0 0 (MQ below (xQ D dA s0 (some (.int ro)) T N Z Io L R) args s 0 0 (fun q => s0 ≤ q)) (F0 m 0 ls []) := by
  have hx := X.1.1
  have hb := X.1.2.1
  unfold fX5_dead at hf
  refine lv_aload_n (pc := 0) hx hb dX5_dead_0 rfl (lv_at hl 0 rfl) ?_
  refine lv_iconst (pc := 1) (v := (ii 0)) hx hb dX5_dead_1 (by decide) ?_
  replace hf := tg_s hf; obtain ⟨ht1, hf⟩ := hf
  replace hf := nm_s hf; obtain ⟨I2, hI2, hf⟩ := hf
  refine x_puti (pc := 2) X V okX5 (by decide) ht1 0 (by decide) q1521 (Or.inl rfl) hI2 (fun _ _ _ => rfl) rfl rfl dX5_dead_2 (fun H locs V => ?_)
  refine lv_iconst (pc := 5) (v := (ii 0)) hx hb dX5_dead_5 (by decide) ?_
  refine lv_istore_n (pc := 6) (lv' := [(1, .int (ii 0)), (0, .ref x0)]) hx hb dX5_dead_6 rfl hl (by decide) rfl (fun ls hl => ?_)
  refine lv_iconst (pc := 7) (v := (ii 0)) hx hb dX5_dead_7 (by decide) ?_
  refine lv_istore_n (pc := 8) (lv' := [(2, .int (ii 0)), (1, .int (ii 0)), (0, .ref x0)]) hx hb dX5_dead_8 rfl hl (by decide) rfl (fun ls hl => ?_)
  exact wX5_dead_b9 X hr nf hf V (lv_sub hl [2, 1, 0] rfl)
theorem mX5_dead {nf : Nat} (l : Launch) (D : va_G) (dA : Nat → ClassId) (s0 : Nat) {T : xT} {N : xT} {Z : Nat} {I : xI} {L : xL} {R : xR} {x0 : Nat} {ro : Int32} {Io : xI} (hf : fX5_dead nf T N I R x0 = some (ro, Io)) : XMet l D dA s0 yX5_dead (ws_ yX5_dead cX5_dead 3 ((some .int))) (2) (45) [.ref x0] T N Z I L R (some (.int ro)) T N Z Io L R 0 0 :=
  x_start (own := RX5) rfl (by decide) (Nat.le_of_ble_eq_true rfl) (lv := [(0, .ref x0)]) rfl (fun p e s m below meth c ls X hr hini V hl => wX5_dead_e X hr hf V hl)
set_option maxHeartbeats 400000 in
set_option maxRecDepth 100000 in
theorem wX5_few_b158 {nf : Nat} {p : Program} {l : Launch} {e : Env} {s : State} {m : MethodId} {args : Array Value} {below : List Frame} {meth : Method} {c : Code} {D : va_G} {dA : Nat → ClassId} {s0 : Nat} {T : xT} {N : xT} {Z : Nat} {R : xR}  {ro : Int64} {Io : xI} {Lo : xL} (X : Cx D dA s0 p m c cX5_few 8 s args RX5 meth) (hr : meth.sig.returnType = (some .long))   (k : Nat) : ∀ {I : xI} {L : xL} {x0 : Nat} {x1 : Int32} {x4 : Int64} {x6 : Int32} {H : Heap} {locs : List Loc} {ls : Array Slot} , fX5_few_b158 nf T N R k I L x0 x1 x4 x6 = some (ro, Io, Lo) → Iv D dA s0 s T N Z I L R H locs → lv_has ls 8 [(0, .ref x0), (1, .int x1), (4, .long x4), (6, .int x6)] → W p l e { frames := 1, cells := 0, slots := 0, locals := 25 } s m args below meth c H locs 0 0 (MQ below (xQ D dA s0 (some (.long ro)) T N Z Io Lo R) args s 0 0 (fun q => s0 ≤ q)) (F0 m 158 ls []) := by
  have hx := X.1.1
  have hb := X.1.2.1
  induction k with
  | zero =>
    intro I L x0 x1 x4 x6 H locs ls hf V hl
    exact absurd (show none = some _ from hf) (fun q => nomatch q)
  | succ k ih =>
    intro I L x0 x1 x4 x6 H locs ls hf V hl
    rw [fX5_few_b158] at hf
    refine lv_iload (pc := 158) hx hb dX5_few_158 (lv_at hl 3 rfl) ?_
    refine lv_iload_n (pc := 160) hx hb dX5_few_160 rfl (lv_at hl 1 rfl) ?_
    refine lv_icmp_ge (pc := 161) (tgt := 182) hx hb dX5_few_161 (by decide) (fun c1 => ?_) (fun c1 => ?_)
    · replace hf := if_t hf c1
      refine lv_lload (pc := 182) hx hb dX5_few_182 (lv_at hl 2 rfl) ?_
      cases hf
      exact x_lret (pc := 184) X V hr dX5_few_184
    · replace hf := if_f hf c1
      refine lv_lload (pc := 164) hx hb dX5_few_164 (lv_at hl 2 rfl) ?_
      refine lv_aload_n (pc := 166) hx hb dX5_few_166 rfl (lv_at hl 0 rfl) ?_
      replace hf := tg_s hf; obtain ⟨ht2, hf⟩ := hf
      replace hf := bs hf; obtain ⟨a3, ha3, hf⟩ := hf
      refine x_get (pc := 167) X V okX5 ht2 47 (by decide) q1568 (v := va_rf (R x0 47)) rfl dX5_few_167 ?_
      refine x_topr ha3 ?_
      refine lv_iload (pc := 170) hx hb dX5_few_170 (lv_at hl 3 rfl) ?_
      replace hf := rA_s hf; obtain ⟨j4, hjj4, htj4, hij4, hf⟩ := hf
      refine x_lald (pc := 172) X V htj4 hij4 hjj4 dX5_few_172 ?_
      refine lv_ladd (pc := 173) hx hb dX5_few_173 ?_
      replace hf := nm_s hf; obtain ⟨u5, hu5, hf⟩ := hf
      refine x_topl hu5 ?_
      refine lv_lstore (pc := 174) (lv' := [(4, .long u5), (0, .ref x0), (1, .int x1), (6, .int x6)]) hx hb dX5_few_174 hl (by decide) rfl (fun ls hl => ?_)
      replace hf := nm_s hf; obtain ⟨u6, hu6, hf⟩ := hf
      refine lv_iinc (pc := 176) (v := u6) (lv' := [(6, .int u6), (4, .long u5), (0, .ref x0), (1, .int x1)]) hx hb dX5_few_176 hl (k := 3) rfl (by rw [hu6]; rfl) (by decide) rfl (fun ls hl => ?_)
      refine lv_goto (pc := 179) (tgt := 158) hx hb dX5_few_179 (by decide) ?_
      exact ih hf V (lv_sub hl [2, 3, 1, 0] rfl)
set_option maxHeartbeats 400000 in
set_option maxRecDepth 100000 in
theorem wX5_few_b86 {nf : Nat} {p : Program} {l : Launch} {e : Env} {s : State} {m : MethodId} {args : Array Value} {below : List Frame} {meth : Method} {c : Code} {D : va_G} {dA : Nat → ClassId} {s0 : Nat} {T : xT} {N : xT} {Z : Nat} {R : xR} {kk75 : xI → xL → Nat → Int32 → Int32 → Int32 → Int32 → Option (Int64 × xI × xL)} {ro : Int64} {Io : xI} {Lo : xL} (X : Cx D dA s0 p m c cX5_few 8 s args RX5 meth) (hr : meth.sig.returnType = (some .long)) (hk75 : ∀ {I : xI} {L : xL} {x0 : Nat} {x1 : Int32} {x2 : Int32} {x3 : Int32} {x4 : Int32} {H : Heap} {locs : List Loc} {ls : Array Slot} , kk75 I L x0 x1 x2 x3 x4 = some (ro, Io, Lo) → Iv D dA s0 s T N Z I L R H locs → lv_has ls 8 [(0, .ref x0), (1, .int x1), (2, .int x2), (3, .int x3), (4, .int x4)] → W p l e { frames := 1, cells := 0, slots := 0, locals := 25 } s m args below meth c H locs 0 0 (MQ below (xQ D dA s0 (some (.long ro)) T N Z Io Lo R) args s 0 0 (fun q => s0 ≤ q)) (F0 m 75 ls []))  (k : Nat) : ∀ {I : xI} {L : xL} {x0 : Nat} {x1 : Int32} {x2 : Int32} {x3 : Int32} {x4 : Int32} {x5 : Int32} {H : Heap} {locs : List Loc} {ls : Array Slot} , fX5_few_b86 nf kk75 T N R k I L x0 x1 x2 x3 x4 x5 = some (ro, Io, Lo) → Iv D dA s0 s T N Z I L R H locs → lv_has ls 8 [(0, .ref x0), (1, .int x1), (2, .int x2), (3, .int x3), (4, .int x4), (5, .int x5)] → W p l e { frames := 1, cells := 0, slots := 0, locals := 25 } s m args below meth c H locs 0 0 (MQ below (xQ D dA s0 (some (.long ro)) T N Z Io Lo R) args s 0 0 (fun q => s0 ≤ q)) (F0 m 86 ls []) := by
  have hx := X.1.1
  have hb := X.1.2.1
  induction k with
  | zero =>
    intro I L x0 x1 x2 x3 x4 x5 H locs ls hf V hl
    exact absurd (show none = some _ from hf) (fun q => nomatch q)
  | succ k ih =>
    intro I L x0 x1 x2 x3 x4 x5 H locs ls hf V hl
    rw [fX5_few_b86] at hf
    refine lv_iload (pc := 86) hx hb dX5_few_86 (lv_at hl 5 rfl) ?_
    refine lv_if_lt (pc := 88) (tgt := 146) hx hb dX5_few_88 (by decide) (fun c1 => ?_) (fun c1 => ?_)
    · replace hf := if_t hf c1
      replace hf := nm_s hf; obtain ⟨u2, hu2, hf⟩ := hf
      refine lv_iinc (pc := 146) (v := u2) (lv' := [(4, .int u2), (0, .ref x0), (1, .int x1), (2, .int x2), (3, .int x3), (5, .int x5)]) hx hb dX5_few_146 hl (k := 4) rfl (by rw [hu2]; rfl) (by decide) rfl (fun ls hl => ?_)
      refine lv_goto (pc := 149) (tgt := 75) hx hb dX5_few_149 (by decide) ?_
      exact hk75 hf V (lv_sub hl [1, 2, 3, 4, 0] rfl)
    · replace hf := if_f hf c1
      refine lv_aload_n (pc := 91) hx hb dX5_few_91 rfl (lv_at hl 0 rfl) ?_
      replace hf := tg_s hf; obtain ⟨ht3, hf⟩ := hf
      replace hf := bs hf; obtain ⟨a4, ha4, hf⟩ := hf
      refine x_get (pc := 92) X V okX5 ht3 47 (by decide) q1568 (v := va_rf (R x0 47)) rfl dX5_few_92 ?_
      refine x_topr ha4 ?_
      refine lv_iload (pc := 95) hx hb dX5_few_95 (lv_at hl 5 rfl) ?_
      replace hf := rA_s hf; obtain ⟨j5, hjj5, htj5, hij5, hf⟩ := hf
      refine x_lald (pc := 97) X V htj5 hij5 hjj5 dX5_few_97 ?_
      replace hf := nm_s hf; obtain ⟨u6, hu6, hf⟩ := hf
      refine x_topl hu6 ?_
      refine lv_lstore (pc := 98) (lv' := [(6, .long u6), (0, .ref x0), (1, .int x1), (2, .int x2), (3, .int x3), (4, .int x4), (5, .int x5)]) hx hb dX5_few_98 hl (by decide) rfl (fun ls hl => ?_)
      refine lv_aload_n (pc := 100) hx hb dX5_few_100 rfl (lv_at hl 1 rfl) ?_
      refine x_get (pc := 101) X V okX5 ht3 47 (by decide) q1568 (v := va_rf (R x0 47)) rfl dX5_few_101 ?_
      refine x_topr ha4 ?_
      refine lv_iload (pc := 104) hx hb dX5_few_104 (lv_at hl 6 rfl) ?_
      refine lv_lload (pc := 106) hx hb dX5_few_106 (lv_at hl 0 rfl) ?_
      refine lv_bipush (pc := 108) (v := (ii 10)) hx hb dX5_few_108 (by decide) ?_
      refine lv_iload_n (pc := 110) hx hb dX5_few_110 rfl (lv_at hl 4 rfl) ?_
      refine lv_isub (pc := 111) hx hb dX5_few_111 ?_
      refine lv_i2l (pc := 112) hx hb dX5_few_112 rfl ?_
      refine lv_lmul (pc := 113) hx hb dX5_few_113 ?_
      refine lv_ldc2 (pc := 114) (v := (jj 10)) hx hb X.1.2.2.2.1 (X.1.2.2.2.2 _ q1813) dX5_few_114 ?_
      refine lv_ldiv (pc := 117) hx hb dX5_few_117 (by decide) ?_
      replace hf := nm_s hf; obtain ⟨L7, hL7, hf⟩ := hf
      refine x_last (pc := 118) X V htj5 hij5 hjj5 hL7 dX5_few_118 (fun H locs V => ?_)
      refine lv_aload_n (pc := 119) hx hb dX5_few_119 rfl (lv_at hl 1 rfl) ?_
      refine x_get (pc := 120) X V okX5 ht3 47 (by decide) q1568 (v := va_rf (R x0 47)) rfl dX5_few_120 ?_
      refine x_topr ha4 ?_
      refine lv_iload (pc := 123) hx hb dX5_few_123 (lv_at hl 6 rfl) ?_
      refine lv_iconst (pc := 125) (v := (ii 1)) hx hb dX5_few_125 (by decide) ?_
      refine lv_iadd (pc := 126) hx hb dX5_few_126 ?_
      refine lv_dup2_11 (pc := 127) hx hb dX5_few_127 rfl rfl ?_
      replace hf := rA_s hf; obtain ⟨j8, hjj8, htj8, hij8, hf⟩ := hf
      refine x_lald (pc := 128) X V htj8 hij8 hjj8 dX5_few_128 ?_
      refine lv_lload (pc := 129) hx hb dX5_few_129 (lv_at hl 0 rfl) ?_
      refine lv_iload_n (pc := 131) hx hb dX5_few_131 rfl (lv_at hl 4 rfl) ?_
      refine lv_i2l (pc := 132) hx hb dX5_few_132 rfl ?_
      refine lv_lmul (pc := 133) hx hb dX5_few_133 ?_
      refine lv_ldc2 (pc := 134) (v := (jj 10)) hx hb X.1.2.2.2.1 (X.1.2.2.2.2 _ q1813) dX5_few_134 ?_
      refine lv_ldiv (pc := 137) hx hb dX5_few_137 (by decide) ?_
      refine lv_ladd (pc := 138) hx hb dX5_few_138 ?_
      replace hf := nm_s hf; obtain ⟨L9, hL9, hf⟩ := hf
      refine x_last (pc := 139) X V htj8 hij8 hjj8 hL9 dX5_few_139 (fun H locs V => ?_)
      replace hf := nm_s hf; obtain ⟨u10, hu10, hf⟩ := hf
      refine lv_iinc (pc := 140) (v := u10) (lv' := [(5, .int u10), (6, .long u6), (0, .ref x0), (1, .int x1), (2, .int x2), (3, .int x3), (4, .int x4)]) hx hb dX5_few_140 hl (k := 6) rfl (by rw [hu10]; rfl) (by decide) rfl (fun ls hl => ?_)
      refine lv_goto (pc := 143) (tgt := 86) hx hb dX5_few_143 (by decide) ?_
      exact ih hf V (lv_sub hl [2, 3, 4, 5, 6, 0] rfl)
set_option maxHeartbeats 400000 in
set_option maxRecDepth 100000 in
theorem wX5_few_b75 {nf : Nat} {p : Program} {l : Launch} {e : Env} {s : State} {m : MethodId} {args : Array Value} {below : List Frame} {meth : Method} {c : Code} {D : va_G} {dA : Nat → ClassId} {s0 : Nat} {T : xT} {N : xT} {Z : Nat} {R : xR}  {ro : Int64} {Io : xI} {Lo : xL} (X : Cx D dA s0 p m c cX5_few 8 s args RX5 meth) (hr : meth.sig.returnType = (some .long))   (k : Nat) : ∀ {I : xI} {L : xL} {x0 : Nat} {x1 : Int32} {x2 : Int32} {x3 : Int32} {x4 : Int32} {H : Heap} {locs : List Loc} {ls : Array Slot} , fX5_few_b75 nf T N R k I L x0 x1 x2 x3 x4 = some (ro, Io, Lo) → Iv D dA s0 s T N Z I L R H locs → lv_has ls 8 [(0, .ref x0), (1, .int x1), (2, .int x2), (3, .int x3), (4, .int x4)] → W p l e { frames := 1, cells := 0, slots := 0, locals := 25 } s m args below meth c H locs 0 0 (MQ below (xQ D dA s0 (some (.long ro)) T N Z Io Lo R) args s 0 0 (fun q => s0 ≤ q)) (F0 m 75 ls []) := by
  have hx := X.1.1
  have hb := X.1.2.1
  induction k with
  | zero =>
    intro I L x0 x1 x2 x3 x4 H locs ls hf V hl
    exact absurd (show none = some _ from hf) (fun q => nomatch q)
  | succ k ih =>
    intro I L x0 x1 x2 x3 x4 H locs ls hf V hl
    rw [fX5_few_b75] at hf
    refine lv_iload (pc := 75) hx hb dX5_few_75 (lv_at hl 4 rfl) ?_
    refine lv_iload_n (pc := 77) hx hb dX5_few_77 rfl (lv_at hl 2 rfl) ?_
    refine lv_icmp_ge (pc := 78) (tgt := 152) hx hb dX5_few_78 (by decide) (fun c1 => ?_) (fun c1 => ?_)
    · replace hf := if_t hf c1
      refine lv_lconst (pc := 152) (v := (jj 0)) hx hb dX5_few_152 (by decide) ?_
      refine lv_lstore (pc := 153) (lv' := [(4, .long (jj 0)), (0, .ref x0), (1, .int x1), (2, .int x2), (3, .int x3)]) hx hb dX5_few_153 hl (by decide) rfl (fun ls hl => ?_)
      refine lv_iconst (pc := 155) (v := (ii 0)) hx hb dX5_few_155 (by decide) ?_
      refine lv_istore (pc := 156) (lv' := [(6, .int (ii 0)), (4, .long (jj 0)), (0, .ref x0), (1, .int x1), (2, .int x2), (3, .int x3)]) hx hb dX5_few_156 hl (by decide) rfl (fun ls hl => ?_)
      exact wX5_few_b158 X hr nf hf V (lv_sub hl [2, 3, 1, 0] rfl)
    · replace hf := if_f hf c1
      refine lv_iload_n (pc := 81) hx hb dX5_few_81 rfl (lv_at hl 1 rfl) ?_
      refine lv_iconst (pc := 82) (v := (ii 1)) hx hb dX5_few_82 (by decide) ?_
      refine lv_isub (pc := 83) hx hb dX5_few_83 ?_
      replace hf := nm_s hf; obtain ⟨u2, hu2, hf⟩ := hf
      refine x_topi hu2 ?_
      refine lv_istore (pc := 84) (lv' := [(5, .int u2), (0, .ref x0), (1, .int x1), (2, .int x2), (3, .int x3), (4, .int x4)]) hx hb dX5_few_84 hl (by decide) rfl (fun ls hl => ?_)
      exact wX5_few_b86 X hr ih nf hf V (lv_sub hl [1, 2, 3, 4, 5, 0] rfl)
set_option maxHeartbeats 400000 in
set_option maxRecDepth 100000 in
theorem wX5_few_b35 {nf : Nat} {p : Program} {l : Launch} {e : Env} {s : State} {m : MethodId} {args : Array Value} {below : List Frame} {meth : Method} {c : Code} {D : va_G} {dA : Nat → ClassId} {s0 : Nat} {T : xT} {N : xT} {Z : Nat} {R : xR}  {ro : Int64} {Io : xI} {Lo : xL} (X : Cx D dA s0 p m c cX5_few 8 s args RX5 meth) (hr : meth.sig.returnType = (some .long))   (k : Nat) : ∀ {I : xI} {L : xL} {x0 : Nat} {x1 : Int32} {x2 : Int32} {x3 : Int32} {H : Heap} {locs : List Loc} {ls : Array Slot} , fX5_few_b35 nf T N R k I L x0 x1 x2 x3 = some (ro, Io, Lo) → Iv D dA s0 s T N Z I L R H locs → lv_has ls 8 [(0, .ref x0), (1, .int x1), (2, .int x2), (3, .int x3)] → W p l e { frames := 1, cells := 0, slots := 0, locals := 25 } s m args below meth c H locs 0 0 (MQ below (xQ D dA s0 (some (.long ro)) T N Z Io Lo R) args s 0 0 (fun q => s0 ≤ q)) (F0 m 35 ls []) := by
  have hx := X.1.1
  have hb := X.1.2.1
  induction k with
  | zero =>
    intro I L x0 x1 x2 x3 H locs ls hf V hl
    exact absurd (show none = some _ from hf) (fun q => nomatch q)
  | succ k ih =>
    intro I L x0 x1 x2 x3 H locs ls hf V hl
    rw [fX5_few_b35] at hf
    refine lv_iload_n (pc := 35) hx hb dX5_few_35 rfl (lv_at hl 3 rfl) ?_
    refine lv_bipush (pc := 36) (v := (ii 21)) hx hb dX5_few_36 (by decide) ?_
    refine lv_icmp_ge (pc := 38) (tgt := 64) hx hb dX5_few_38 (by decide) (fun c1 => ?_) (fun c1 => ?_)
    · replace hf := if_t hf c1
      refine lv_aload_n (pc := 64) hx hb dX5_few_64 rfl (lv_at hl 0 rfl) ?_
      replace hf := tg_s hf; obtain ⟨ht2, hf⟩ := hf
      replace hf := bs hf; obtain ⟨a3, ha3, hf⟩ := hf
      refine x_get (pc := 65) X V okX5 ht2 3 (by decide) q1524 (v := va_rf (R x0 3)) rfl dX5_few_65 ?_
      refine x_topr ha3 ?_
      refine lv_bipush (pc := 68) (v := (ii 6)) hx hb dX5_few_68 (by decide) ?_
      replace hf := rA_s hf; obtain ⟨j4, hjj4, htj4, hij4, hf⟩ := hf
      refine x_iald (pc := 70) X V htj4 hij4 hjj4 dX5_few_70 ?_
      replace hf := nm_s hf; obtain ⟨u5, hu5, hf⟩ := hf
      refine x_topi hu5 ?_
      refine lv_istore_n (pc := 71) (lv' := [(3, .int u5), (0, .ref x0), (1, .int x1), (2, .int x2)]) hx hb dX5_few_71 rfl hl (by decide) rfl (fun ls hl => ?_)
      refine lv_iconst (pc := 72) (v := (ii 0)) hx hb dX5_few_72 (by decide) ?_
      refine lv_istore (pc := 73) (lv' := [(4, .int (ii 0)), (3, .int u5), (0, .ref x0), (1, .int x1), (2, .int x2)]) hx hb dX5_few_73 hl (by decide) rfl (fun ls hl => ?_)
      exact wX5_few_b75 X hr nf hf V (lv_sub hl [2, 3, 4, 1, 0] rfl)
    · replace hf := if_f hf c1
      refine lv_aload_n (pc := 41) hx hb dX5_few_41 rfl (lv_at hl 0 rfl) ?_
      replace hf := tg_s hf; obtain ⟨ht6, hf⟩ := hf
      replace hf := bs hf; obtain ⟨a7, ha7, hf⟩ := hf
      refine x_get (pc := 42) X V okX5 ht6 47 (by decide) q1568 (v := va_rf (R x0 47)) rfl dX5_few_42 ?_
      refine x_topr ha7 ?_
      refine lv_iload_n (pc := 45) hx hb dX5_few_45 rfl (lv_at hl 3 rfl) ?_
      refine lv_iload_n (pc := 46) hx hb dX5_few_46 rfl (lv_at hl 3 rfl) ?_
      refine lv_if_ne (pc := 47) (tgt := 56) hx hb dX5_few_47 (by decide) (fun c8 => ?_) (fun c8 => ?_)
      · replace hf := if_f hf c8
        refine lv_lconst (pc := 56) (v := (jj 0)) hx hb dX5_few_56 (by decide) ?_
        replace hf := rA_s hf; obtain ⟨j9, hjj9, htj9, hij9, hf⟩ := hf
        replace hf := nm_s hf; obtain ⟨L10, hL10, hf⟩ := hf
        refine x_last (pc := 57) X V htj9 hij9 hjj9 hL10 dX5_few_57 (fun H locs V => ?_)
        replace hf := nm_s hf; obtain ⟨u11, hu11, hf⟩ := hf
        refine lv_iinc (pc := 58) (v := u11) (lv' := [(3, .int u11), (0, .ref x0), (1, .int x1), (2, .int x2)]) hx hb dX5_few_58 hl (k := 3) rfl (by rw [hu11]; rfl) (by decide) rfl (fun ls hl => ?_)
        refine lv_goto (pc := 61) (tgt := 35) hx hb dX5_few_61 (by decide) ?_
        exact ih hf V (lv_sub hl [1, 2, 3, 0] rfl)
      · replace hf := if_t hf c8
        refine lv_ldc2 (pc := 50) (v := (jj 1000000000000)) hx hb X.1.2.2.2.1 (X.1.2.2.2.2 _ q2153) dX5_few_50 ?_
        refine lv_goto (pc := 53) (tgt := 57) hx hb dX5_few_53 (by decide) ?_
        replace hf := rA_s hf; obtain ⟨j12, hjj12, htj12, hij12, hf⟩ := hf
        replace hf := nm_s hf; obtain ⟨L13, hL13, hf⟩ := hf
        refine x_last (pc := 57) X V htj12 hij12 hjj12 hL13 dX5_few_57 (fun H locs V => ?_)
        replace hf := nm_s hf; obtain ⟨u14, hu14, hf⟩ := hf
        refine lv_iinc (pc := 58) (v := u14) (lv' := [(3, .int u14), (0, .ref x0), (1, .int x1), (2, .int x2)]) hx hb dX5_few_58 hl (k := 3) rfl (by rw [hu14]; rfl) (by decide) rfl (fun ls hl => ?_)
        refine lv_goto (pc := 61) (tgt := 35) hx hb dX5_few_61 (by decide) ?_
        exact ih hf V (lv_sub hl [1, 2, 3, 0] rfl)
set_option maxHeartbeats 400000 in
set_option maxRecDepth 100000 in
theorem wX5_few_e {nf : Nat} {p : Program} {l : Launch} {e : Env} {s : State} {m : MethodId} {args : Array Value} {below : List Frame} {meth : Method} {c : Code} {D : va_G} {dA : Nat → ClassId} {s0 : Nat} {T : xT} {N : xT} {Z : Nat} {I : xI} {L : xL} {R : xR} {H : Heap} {locs : List Loc} {ls : Array Slot} {x0 : Nat} {x1 : Int32} {x2 : Int32} {ro : Int64} {Io : xI} {Lo : xL} (X : Cx D dA s0 p m c cX5_few 8 s args RX5 meth) (hr : meth.sig.returnType = (some .long)) (hf : fX5_few nf T N I L R x0 x1 x2 = some (ro, Io, Lo)) (V : Iv D dA s0 s T N Z I L R H locs) (hl : lv_has ls 8 [(0, .ref x0), (1, .int x1), (2, .int x2)]) : W p l e { frames := 1, cells := 0, slots := 0, locals := 25 } s m args below meth c H locs 0 0 (MQ below (xQ D dA s0 (some (.long ro)) T N Z Io Lo R) args s 0 0 (fun q => s0 ≤ q)) (F0 m 0 ls []) := by
  have hx := X.1.1
  have hb := X.1.2.1
  unfold fX5_few at hf
  refine lv_aload_n (pc := 0) hx hb dX5_few_0 rfl (lv_at hl 0 rfl) ?_
  refine lv_iconst (pc := 1) (v := (ii 0)) hx hb dX5_few_1 (by decide) ?_
  replace hf := tg_s hf; obtain ⟨ht1, hf⟩ := hf
  replace hf := nm_s hf; obtain ⟨I2, hI2, hf⟩ := hf
  refine x_puti (pc := 2) X V okX5 (by decide) ht1 0 (by decide) q1521 (Or.inl rfl) hI2 (fun _ _ _ => rfl) rfl rfl dX5_few_2 (fun H locs V => ?_)
  refine lv_iload_n (pc := 5) hx hb dX5_few_5 rfl (lv_at hl 1 rfl) ?_
  refine lv_i2l (pc := 6) hx hb dX5_few_6 rfl ?_
  refine lv_lconst (pc := 7) (v := (jj 1)) hx hb dX5_few_7 (by decide) ?_
  refine lv_ldc2 (pc := 8) (v := (jj 20)) hx hb X.1.2.2.2.1 (X.1.2.2.2.2 _ q1946) dX5_few_8 ?_
  replace hf := bs hf; obtain ⟨r3, hk_4, hf⟩ := hf
  refine x_callS0 (pc := 11) (As := [.long ((x1).toInt64), .long (jj 1), .long (jj 20)]) (rest := []) X V (mX5_in l D dA s0 hk_4) q1713 q1714 q129 q1715 hsX5_in ⟨Nat.le_of_ble_eq_true rfl, Nat.le_of_ble_eq_true rfl⟩ rfl hl.1 rfl (Nat.le_of_ble_eq_true rfl) dX5_few_11 ⟨Nat.zero_le _, Nat.zero_le _⟩ (fun H locs V => W.eq (g2 := F0 m 14 ls [.int r3]) rfl ?_)
  refine lv_if_eq (pc := 14) (tgt := 29) hx hb dX5_few_14 (by decide) (fun c5 => ?_) (fun c5 => ?_)
  · replace hf := if_t hf c5
    refine lv_ldc2 (pc := 29) (v := (-1 : Int64)) hx hb X.1.2.2.2.1 (X.1.2.2.2.2 _ q1766) dX5_few_29 ?_
    cases hf
    exact x_lret (pc := 32) X V hr dX5_few_32
  · replace hf := if_f hf c5
    refine lv_iload_n (pc := 17) hx hb dX5_few_17 rfl (lv_at hl 2 rfl) ?_
    refine lv_i2l (pc := 18) hx hb dX5_few_18 rfl ?_
    refine lv_lconst (pc := 19) (v := (jj 0)) hx hb dX5_few_19 (by decide) ?_
    refine lv_ldc2 (pc := 20) (v := (jj 99)) hx hb X.1.2.2.2.1 (X.1.2.2.2.2 _ q2152) dX5_few_20 ?_
    replace hf := bs hf; obtain ⟨r6, hk_7, hf⟩ := hf
    refine x_callS0 (pc := 23) (As := [.long ((x2).toInt64), .long (jj 0), .long (jj 99)]) (rest := []) X V (mX5_in l D dA s0 hk_7) q1713 q1714 q129 q1715 hsX5_in ⟨Nat.le_of_ble_eq_true rfl, Nat.le_of_ble_eq_true rfl⟩ rfl hl.1 rfl (Nat.le_of_ble_eq_true rfl) dX5_few_23 ⟨Nat.zero_le _, Nat.zero_le _⟩ (fun H locs V => W.eq (g2 := F0 m 26 ls [.int r6]) rfl ?_)
    refine lv_if_ne (pc := 26) (tgt := 33) hx hb dX5_few_26 (by decide) (fun c8 => ?_) (fun c8 => ?_)
    · replace hf := if_f hf c8
      refine lv_iconst (pc := 33) (v := (ii 0)) hx hb dX5_few_33 (by decide) ?_
      refine lv_istore_n (pc := 34) (lv' := [(3, .int (ii 0)), (0, .ref x0), (1, .int x1), (2, .int x2)]) hx hb dX5_few_34 rfl hl (by decide) rfl (fun ls hl => ?_)
      exact wX5_few_b35 X hr nf hf V (lv_sub hl [1, 2, 3, 0] rfl)
    · replace hf := if_t hf c8
      refine lv_ldc2 (pc := 29) (v := (-1 : Int64)) hx hb X.1.2.2.2.1 (X.1.2.2.2.2 _ q1766) dX5_few_29 ?_
      cases hf
      exact x_lret (pc := 32) X V hr dX5_few_32
theorem mX5_few {nf : Nat} (l : Launch) (D : va_G) (dA : Nat → ClassId) (s0 : Nat) {T : xT} {N : xT} {Z : Nat} {I : xI} {L : xL} {R : xR} {x0 : Nat} {x1 : Int32} {x2 : Int32} {ro : Int64} {Io : xI} {Lo : xL} (hf : fX5_few nf T N I L R x0 x1 x2 = some (ro, Io, Lo)) : XMet l D dA s0 yX5_few (ws_ yX5_few cX5_few 8 ((some .long))) (1) (25) [.ref x0, .int x1, .int x2] T N Z I L R (some (.long ro)) T N Z Io Lo R 0 0 :=
  x_start (own := RX5) rfl (by decide) (Nat.le_of_ble_eq_true rfl) (lv := [(0, .ref x0), (1, .int x1), (2, .int x2)]) rfl (fun p e s m below meth c ls X hr hini V hl => wX5_few_e X hr hf V hl)
set_option maxHeartbeats 400000 in
set_option maxRecDepth 100000 in
theorem wX5_compare_e {nf : Nat} {p : Program} {l : Launch} {e : Env} {s : State} {m : MethodId} {args : Array Value} {below : List Frame} {meth : Method} {c : Code} {D : va_G} {dA : Nat → ClassId} {s0 : Nat} {T : xT} {N : xT} {Z : Nat} {I : xI} {L : xL} {R : xR} {H : Heap} {locs : List Loc} {ls : Array Slot} {x0 : Nat} {x1 : Int32} {x2 : Int32} {ro : Int32} {Io : xI} {Lo : xL} (X : Cx D dA s0 p m c cX5_compare 5 s args RX5 meth) (hr : meth.sig.returnType = (some .int)) (hf : fX5_compare nf T N I L R x0 x1 x2 = some (ro, Io, Lo)) (V : Iv D dA s0 s T N Z I L R H locs) (hl : lv_has ls 5 [(0, .ref x0), (1, .int x1), (2, .int x2)]) : W p l e { frames := 8, cells := 0, slots := 0, locals := 191 } s m args below meth c H locs 0 0 (MQ below (xQ D dA s0 (some (.int ro)) T N Z Io Lo R) args s 0 0 (fun q => s0 ≤ q)) (F0 m 0 ls []) := by
  have hx := X.1.1
  have hb := X.1.2.1
  unfold fX5_compare at hf
  refine lv_aload_n (pc := 0) hx hb dX5_compare_0 rfl (lv_at hl 0 rfl) ?_
  refine lv_iconst (pc := 1) (v := (ii 0)) hx hb dX5_compare_1 (by decide) ?_
  replace hf := tg_s hf; obtain ⟨ht1, hf⟩ := hf
  replace hf := nm_s hf; obtain ⟨I2, hI2, hf⟩ := hf
  refine x_puti (pc := 2) X V okX5 (by decide) ht1 0 (by decide) q1521 (Or.inl rfl) hI2 (fun _ _ _ => rfl) rfl rfl dX5_compare_2 (fun H locs V => ?_)
  refine lv_aload_n (pc := 5) hx hb dX5_compare_5 rfl (lv_at hl 0 rfl) ?_
  refine lv_iload_n (pc := 6) hx hb dX5_compare_6 rfl (lv_at hl 1 rfl) ?_
  replace hf := bs hf; obtain ⟨r3, hk_4, hf⟩ := hf
  refine x_callV0 (pc := 7) (As := [.int x1]) (rest := []) X V (mX5_isLaw l D dA s0 hk_4) okX5 ht1 q1965 q1967 qs86 q129 q1968 ⟨rfl, hsX5_isLaw⟩ ⟨Nat.le_of_ble_eq_true rfl, Nat.le_of_ble_eq_true rfl⟩ rfl hl.1 rfl (Nat.le_of_ble_eq_true rfl) dX5_compare_7 ⟨Nat.zero_le _, Nat.zero_le _⟩ (fun H locs V => W.eq (g2 := F0 m 10 ls [.int r3]) rfl ?_)
  refine lv_if_eq (pc := 10) (tgt := 21) hx hb dX5_compare_10 (by decide) (fun c5 => ?_) (fun c5 => ?_)
  · replace hf := if_t hf c5
    refine lv_iconst (pc := 21) (v := (-1 : Int32)) hx hb dX5_compare_21 (by decide) ?_
    cases hf
    exact x_iret (pc := 22) X V hr dX5_compare_22
  · replace hf := if_f hf c5
    refine lv_aload_n (pc := 13) hx hb dX5_compare_13 rfl (lv_at hl 0 rfl) ?_
    refine lv_iload_n (pc := 14) hx hb dX5_compare_14 rfl (lv_at hl 2 rfl) ?_
    replace hf := bs hf; obtain ⟨r6, hk_7, hf⟩ := hf
    refine x_callV0 (pc := 15) (As := [.int x2]) (rest := []) X V (mX5_isChild l D dA s0 hk_7) okX5 ht1 q1754 q1756 qs50 q129 q1757 ⟨rfl, hsX5_isChild⟩ ⟨Nat.le_of_ble_eq_true rfl, Nat.le_of_ble_eq_true rfl⟩ rfl hl.1 rfl (Nat.le_of_ble_eq_true rfl) dX5_compare_15 ⟨Nat.zero_le _, Nat.zero_le _⟩ (fun H locs V => W.eq (g2 := F0 m 18 ls [.int r6]) rfl ?_)
    refine lv_if_ne (pc := 18) (tgt := 23) hx hb dX5_compare_18 (by decide) (fun c8 => ?_) (fun c8 => ?_)
    · replace hf := if_f hf c8
      refine lv_aload_n (pc := 23) hx hb dX5_compare_23 rfl (lv_at hl 0 rfl) ?_
      replace hf := bs hf; obtain ⟨a9, ha9, hf⟩ := hf
      refine x_get (pc := 24) X V okX5 ht1 3 (by decide) q1524 (v := va_rf (R x0 3)) rfl dX5_compare_24 ?_
      refine x_topr ha9 ?_
      refine lv_iconst (pc := 27) (v := (ii 4)) hx hb dX5_compare_27 (by decide) ?_
      replace hf := rA_s hf; obtain ⟨j10, hjj10, htj10, hij10, hf⟩ := hf
      refine x_iald (pc := 28) X V htj10 hij10 hjj10 dX5_compare_28 ?_
      replace hf := nm_s hf; obtain ⟨u11, hu11, hf⟩ := hf
      refine x_topi hu11 ?_
      refine lv_istore_n (pc := 29) (lv' := [(3, .int u11), (0, .ref x0), (1, .int x1), (2, .int x2)]) hx hb dX5_compare_29 rfl hl (by decide) rfl (fun ls hl => ?_)
      refine lv_aload_n (pc := 30) hx hb dX5_compare_30 rfl (lv_at hl 1 rfl) ?_
      refine x_get (pc := 31) X V okX5 ht1 3 (by decide) q1524 (v := va_rf (R x0 3)) rfl dX5_compare_31 ?_
      refine x_topr ha9 ?_
      refine lv_iconst (pc := 34) (v := (ii 4)) hx hb dX5_compare_34 (by decide) ?_
      refine lv_iload_n (pc := 35) hx hb dX5_compare_35 rfl (lv_at hl 2 rfl) ?_
      replace hf := nm_s hf; obtain ⟨I12, hI12, hf⟩ := hf
      refine x_iast (pc := 36) X V htj10 hij10 hjj10 hI12 dX5_compare_36 (fun H locs V => ?_)
      refine lv_aload_n (pc := 37) hx hb dX5_compare_37 rfl (lv_at hl 1 rfl) ?_
      refine lv_iload_n (pc := 38) hx hb dX5_compare_38 rfl (lv_at hl 3 rfl) ?_
      replace hf := b3s hf; obtain ⟨r13, I14, L15, hk_16, hf⟩ := hf
      refine x_callV0 (pc := 39) (As := [.int x2]) (rest := []) X V (mX5_laneOf l D dA s0 hk_16) okX5 ht1 q1784 q1786 qs56 q129 q1787 ⟨rfl, hsX5_laneOf⟩ ⟨Nat.le_of_ble_eq_true rfl, Nat.le_of_ble_eq_true rfl⟩ rfl hl.1 rfl (Nat.le_of_ble_eq_true rfl) dX5_compare_39 ⟨Nat.zero_le _, Nat.zero_le _⟩ (fun H locs V => W.eq (g2 := F0 m 42 ls [.int r13]) rfl ?_)
      refine lv_istore (pc := 42) (lv' := [(4, .int r13), (3, .int u11), (0, .ref x0), (1, .int x1), (2, .int x2)]) hx hb dX5_compare_42 hl (by decide) rfl (fun ls hl => ?_)
      refine lv_aload_n (pc := 44) hx hb dX5_compare_44 rfl (lv_at hl 2 rfl) ?_
      refine x_get (pc := 45) X V okX5 ht1 3 (by decide) q1524 (v := va_rf (R x0 3)) rfl dX5_compare_45 ?_
      refine x_topr ha9 ?_
      refine lv_iconst (pc := 48) (v := (ii 4)) hx hb dX5_compare_48 (by decide) ?_
      refine lv_iload_n (pc := 49) hx hb dX5_compare_49 rfl (lv_at hl 1 rfl) ?_
      replace hf := nm_s hf; obtain ⟨I17, hI17, hf⟩ := hf
      refine x_iast (pc := 50) X V htj10 hij10 hjj10 hI17 dX5_compare_50 (fun H locs V => ?_)
      refine lv_iload (pc := 51) hx hb dX5_compare_51 (lv_at hl 0 rfl) ?_
      refine lv_iconst (pc := 53) (v := (-1 : Int32)) hx hb dX5_compare_53 (by decide) ?_
      refine lv_icmp_ne (pc := 54) (tgt := 69) hx hb dX5_compare_54 (by decide) (fun c18 => ?_) (fun c18 => ?_)
      · replace hf := if_f hf c18
        refine lv_aload_n (pc := 69) hx hb dX5_compare_69 rfl (lv_at hl 2 rfl) ?_
        refine lv_iload (pc := 70) hx hb dX5_compare_70 (lv_at hl 0 rfl) ?_
        refine lv_aload_n (pc := 72) hx hb dX5_compare_72 rfl (lv_at hl 2 rfl) ?_
        refine x_get (pc := 73) X V okX5 ht1 3 (by decide) q1524 (v := va_rf (R x0 3)) rfl dX5_compare_73 ?_
        refine x_topr ha9 ?_
        refine lv_bipush (pc := 76) (v := (ii 18)) hx hb dX5_compare_76 (by decide) ?_
        refine lv_iload_n (pc := 78) hx hb dX5_compare_78 rfl (lv_at hl 4 rfl) ?_
        refine lv_iadd (pc := 79) hx hb dX5_compare_79 ?_
        replace hf := rA_s hf; obtain ⟨j19, hjj19, htj19, hij19, hf⟩ := hf
        refine x_iald (pc := 80) X V htj19 hij19 hjj19 dX5_compare_80 ?_
        replace hf := bs hf; obtain ⟨r20, hk_21, hf⟩ := hf
        refine x_callV0 (pc := 81) (As := [.int r13, .int (I17 a9 j19)]) (rest := []) X V (mX5_across l D dA s0 hk_21) okX5 ht1 q1989 q1991 qs91 q129 q1992 ⟨rfl, hsX5_across⟩ ⟨Nat.le_of_ble_eq_true rfl, Nat.le_of_ble_eq_true rfl⟩ rfl hl.1 rfl (Nat.le_of_ble_eq_true rfl) dX5_compare_81 ⟨Nat.zero_le _, Nat.zero_le _⟩ (fun H locs V => W.eq (g2 := F0 m 84 ls [.int r20]) rfl ?_)
        cases hf
        exact x_iret (pc := 84) X V hr dX5_compare_84
      · replace hf := if_t hf c18
        refine lv_aload_n (pc := 57) hx hb dX5_compare_57 rfl (lv_at hl 2 rfl) ?_
        refine x_get (pc := 58) X V okX5 ht1 3 (by decide) q1524 (v := va_rf (R x0 3)) rfl dX5_compare_58 ?_
        refine x_topr ha9 ?_
        refine lv_bipush (pc := 61) (v := (ii 18)) hx hb dX5_compare_61 (by decide) ?_
        refine lv_iload_n (pc := 63) hx hb dX5_compare_63 rfl (lv_at hl 4 rfl) ?_
        refine lv_iadd (pc := 64) hx hb dX5_compare_64 ?_
        replace hf := rA_s hf; obtain ⟨j22, hjj22, htj22, hij22, hf⟩ := hf
        refine x_iald (pc := 65) X V htj22 hij22 hjj22 dX5_compare_65 ?_
        refine lv_goto (pc := 66) (tgt := 84) hx hb dX5_compare_66 (by decide) ?_
        cases hf
        exact x_iret (pc := 84) X V hr dX5_compare_84
    · replace hf := if_t hf c8
      refine lv_iconst (pc := 21) (v := (-1 : Int32)) hx hb dX5_compare_21 (by decide) ?_
      cases hf
      exact x_iret (pc := 22) X V hr dX5_compare_22
theorem mX5_compare {nf : Nat} (l : Launch) (D : va_G) (dA : Nat → ClassId) (s0 : Nat) {T : xT} {N : xT} {Z : Nat} {I : xI} {L : xL} {R : xR} {x0 : Nat} {x1 : Int32} {x2 : Int32} {ro : Int32} {Io : xI} {Lo : xL} (hf : fX5_compare nf T N I L R x0 x1 x2 = some (ro, Io, Lo)) : XMet l D dA s0 yX5_compare (ws_ yX5_compare cX5_compare 5 ((some .int))) (8) (191) [.ref x0, .int x1, .int x2] T N Z I L R (some (.int ro)) T N Z Io Lo R 0 0 :=
  x_start (own := RX5) rfl (by decide) (Nat.le_of_ble_eq_true rfl) (lv := [(0, .ref x0), (1, .int x1), (2, .int x2)]) rfl (fun p e s m below meth c ls X hr hini V hl => wX5_compare_e X hr hf V hl)
set_option maxHeartbeats 400000 in
set_option maxRecDepth 100000 in
theorem wX5_readSum_b22 {nf : Nat} {p : Program} {l : Launch} {e : Env} {s : State} {m : MethodId} {args : Array Value} {below : List Frame} {meth : Method} {c : Code} {D : va_G} {dA : Nat → ClassId} {s0 : Nat} {T : xT} {N : xT} {Z : Nat} {I : xI} {L : xL} {R : xR} {H : Heap} {locs : List Loc} {ls : Array Slot}  {x0 : Nat} {x1 : Int32} {Io : xI} {Lo : xL} (X : Cx D dA s0 p m c cX5_readSum 2 s args RX5 meth) (hr : meth.sig.returnType = none)   (hf : fX5_readSum_b22 nf T N I L R x0 x1 = some (Io, Lo)) (V : Iv D dA s0 s T N Z I L R H locs) (hl : lv_has ls 2 [(0, .ref x0), (1, .int x1)]) : W p l e { frames := 7, cells := 0, slots := 0, locals := 151 } s m args below meth c H locs 0 0 (MQ below (xQ D dA s0 none T N Z Io Lo R) args s 0 0 (fun q => s0 ≤ q)) (F0 m 22 ls []) := by
  have hx := X.1.1
  have hb := X.1.2.1
  unfold fX5_readSum_b22 at hf
  refine lv_aload_n (pc := 22) hx hb dX5_readSum_22 rfl (lv_at hl 0 rfl) ?_
  replace hf := tg_s hf; obtain ⟨ht1, hf⟩ := hf
  replace hf := bs hf; obtain ⟨a2, ha2, hf⟩ := hf
  refine x_get (pc := 23) X V okX5 ht1 49 (by decide) q1570 (v := va_rf (R x0 49)) rfl dX5_readSum_23 ?_
  refine x_topr ha2 ?_
  refine lv_iload_n (pc := 26) hx hb dX5_readSum_26 rfl (lv_at hl 1 rfl) ?_
  refine lv_iconst (pc := 27) (v := (ii 1)) hx hb dX5_readSum_27 (by decide) ?_
  refine lv_iadd (pc := 28) hx hb dX5_readSum_28 ?_
  refine lv_aload_n (pc := 29) hx hb dX5_readSum_29 rfl (lv_at hl 0 rfl) ?_
  refine x_get (pc := 30) X V okX5 ht1 23 (by decide) q1544 (v := .int (I x0 23)) rfl dX5_readSum_30 ?_
  replace hf := rA_s hf; obtain ⟨j3, hjj3, htj3, hij3, hf⟩ := hf
  replace hf := nm_s hf; obtain ⟨I4, hI4, hf⟩ := hf
  refine x_iast (pc := 33) X V htj3 hij3 hjj3 hI4 dX5_readSum_33 (fun H locs V => ?_)
  cases hf
  exact x_vret (pc := 34) X V hr dX5_readSum_34
set_option maxHeartbeats 400000 in
set_option maxRecDepth 100000 in
theorem wX5_readSum_e {nf : Nat} {p : Program} {l : Launch} {e : Env} {s : State} {m : MethodId} {args : Array Value} {below : List Frame} {meth : Method} {c : Code} {D : va_G} {dA : Nat → ClassId} {s0 : Nat} {T : xT} {N : xT} {Z : Nat} {I : xI} {L : xL} {R : xR} {H : Heap} {locs : List Loc} {ls : Array Slot} {x0 : Nat} {x1 : Int32} {Io : xI} {Lo : xL} (X : Cx D dA s0 p m c cX5_readSum 2 s args RX5 meth) (hr : meth.sig.returnType = none) (hf : fX5_readSum nf T N I L R x0 x1 = some (Io, Lo)) (V : Iv D dA s0 s T N Z I L R H locs) (hl : lv_has ls 2 [(0, .ref x0), (1, .int x1)]) : W p l e { frames := 7, cells := 0, slots := 0, locals := 151 } s m args below meth c H locs 0 0 (MQ below (xQ D dA s0 none T N Z Io Lo R) args s 0 0 (fun q => s0 ≤ q)) (F0 m 0 ls []) := by
  have hx := X.1.1
  have hb := X.1.2.1
  unfold fX5_readSum at hf
  refine lv_aload_n (pc := 0) hx hb dX5_readSum_0 rfl (lv_at hl 0 rfl) ?_
  replace hf := tg_s hf; obtain ⟨ht1, hf⟩ := hf
  replace hf := bs hf; obtain ⟨a2, ha2, hf⟩ := hf
  refine x_get (pc := 1) X V okX5 ht1 49 (by decide) q1570 (v := va_rf (R x0 49)) rfl dX5_readSum_1 ?_
  refine x_topr ha2 ?_
  refine lv_iload_n (pc := 4) hx hb dX5_readSum_4 rfl (lv_at hl 1 rfl) ?_
  refine lv_aload_n (pc := 5) hx hb dX5_readSum_5 rfl (lv_at hl 0 rfl) ?_
  refine x_get (pc := 6) X V okX5 ht1 23 (by decide) q1544 (v := .int (I x0 23)) rfl dX5_readSum_6 ?_
  replace hf := rA_s hf; obtain ⟨j3, hjj3, htj3, hij3, hf⟩ := hf
  replace hf := nm_s hf; obtain ⟨I4, hI4, hf⟩ := hf
  refine x_iast (pc := 9) X V htj3 hij3 hjj3 hI4 dX5_readSum_9 (fun H locs V => ?_)
  refine lv_aload_n (pc := 10) hx hb dX5_readSum_10 rfl (lv_at hl 0 rfl) ?_
  refine x_get (pc := 11) X V okX5 ht1 19 (by decide) q1540 (v := .int (I4 x0 19)) rfl dX5_readSum_11 ?_
  refine lv_if_ne (pc := 14) (tgt := 22) hx hb dX5_readSum_14 (by decide) (fun c5 => ?_) (fun c5 => ?_)
  · replace hf := if_f hf c5
    exact wX5_readSum_b22 X hr hf V (lv_sub hl [0, 1] rfl)
  · replace hf := if_t hf c5
    refine lv_aload_n (pc := 17) hx hb dX5_readSum_17 rfl (lv_at hl 0 rfl) ?_
    refine lv_iconst (pc := 18) (v := (ii 0)) hx hb dX5_readSum_18 (by decide) ?_
    replace hf := b2s hf; obtain ⟨I6, L7, hk_8, hf⟩ := hf
    refine x_callV0 (pc := 19) (As := [.int (ii 0)]) (rest := []) X V (mX5_readExpression l D dA s0 hk_8) okX5 ht1 q1880 q1882 qs69 q129 q1883 ⟨rfl, hsX5_readExpression⟩ ⟨Nat.le_of_ble_eq_true rfl, Nat.le_of_ble_eq_true rfl⟩ rfl hl.1 rfl (Nat.le_of_ble_eq_true rfl) dX5_readSum_19 ⟨Nat.zero_le _, Nat.zero_le _⟩ (fun H locs V => W.eq (g2 := F0 m 22 ls []) rfl ?_)
    exact wX5_readSum_b22 X hr hf V (lv_sub hl [0, 1] rfl)
theorem mX5_readSum {nf : Nat} (l : Launch) (D : va_G) (dA : Nat → ClassId) (s0 : Nat) {T : xT} {N : xT} {Z : Nat} {I : xI} {L : xL} {R : xR} {x0 : Nat} {x1 : Int32} {Io : xI} {Lo : xL} (hf : fX5_readSum nf T N I L R x0 x1 = some (Io, Lo)) : XMet l D dA s0 yX5_readSum (ws_ yX5_readSum cX5_readSum 2 (none)) (7) (151) [.ref x0, .int x1] T N Z I L R none T N Z Io Lo R 0 0 :=
  x_start (own := RX5) rfl (by decide) (Nat.le_of_ble_eq_true rfl) (lv := [(0, .ref x0), (1, .int x1)]) rfl (fun p e s m below meth c ls X hr hini V hl => wX5_readSum_e X hr hf V hl)
set_option maxHeartbeats 400000 in
set_option maxRecDepth 100000 in
theorem wX5_readOrder_b241 {nf : Nat} {p : Program} {l : Launch} {e : Env} {s : State} {m : MethodId} {args : Array Value} {below : List Frame} {meth : Method} {c : Code} {D : va_G} {dA : Nat → ClassId} {s0 : Nat} {T : xT} {N : xT} {Z : Nat} {I : xI} {L : xL} {R : xR} {H : Heap} {locs : List Loc} {ls : Array Slot}  {x0 : Nat} {x2 : Int32} {Io : xI} {Lo : xL} (X : Cx D dA s0 p m c cX5_readOrder 4 s args RX5 meth) (hr : meth.sig.returnType = none)   (hf : fX5_readOrder_b241 nf T N I L R x0 x2 = some (Io, Lo)) (V : Iv D dA s0 s T N Z I L R H locs) (hl : lv_has ls 4 [(0, .ref x0), (2, .int x2)]) : W p l e { frames := 8, cells := 0, slots := 0, locals := 172 } s m args below meth c H locs 0 0 (MQ below (xQ D dA s0 none T N Z Io Lo R) args s 0 0 (fun q => s0 ≤ q)) (F0 m 241 ls []) := by
  have hx := X.1.1
  have hb := X.1.2.1
  unfold fX5_readOrder_b241 at hf
  refine lv_aload_n (pc := 241) hx hb dX5_readOrder_241 rfl (lv_at hl 0 rfl) ?_
  replace hf := tg_s hf; obtain ⟨ht1, hf⟩ := hf
  replace hf := bs hf; obtain ⟨a2, ha2, hf⟩ := hf
  refine x_get (pc := 242) X V okX5 ht1 49 (by decide) q1570 (v := va_rf (R x0 49)) rfl dX5_readOrder_242 ?_
  refine x_topr ha2 ?_
  refine lv_iload_n (pc := 245) hx hb dX5_readOrder_245 rfl (lv_at hl 1 rfl) ?_
  refine lv_bipush (pc := 246) (v := (ii 6)) hx hb dX5_readOrder_246 (by decide) ?_
  refine lv_iadd (pc := 248) hx hb dX5_readOrder_248 ?_
  refine lv_aload_n (pc := 249) hx hb dX5_readOrder_249 rfl (lv_at hl 0 rfl) ?_
  refine x_get (pc := 250) X V okX5 ht1 23 (by decide) q1544 (v := .int (I x0 23)) rfl dX5_readOrder_250 ?_
  replace hf := rA_s hf; obtain ⟨j3, hjj3, htj3, hij3, hf⟩ := hf
  replace hf := nm_s hf; obtain ⟨I4, hI4, hf⟩ := hf
  refine x_iast (pc := 253) X V htj3 hij3 hjj3 hI4 dX5_readOrder_253 (fun H locs V => ?_)
  cases hf
  exact x_vret (pc := 254) X V hr dX5_readOrder_254
set_option maxHeartbeats 400000 in
set_option maxRecDepth 100000 in
theorem wX5_readOrder_b203 {nf : Nat} {p : Program} {l : Launch} {e : Env} {s : State} {m : MethodId} {args : Array Value} {below : List Frame} {meth : Method} {c : Code} {D : va_G} {dA : Nat → ClassId} {s0 : Nat} {T : xT} {N : xT} {Z : Nat} {I : xI} {L : xL} {R : xR} {H : Heap} {locs : List Loc} {ls : Array Slot}  {x0 : Nat} {x2 : Int32} {Io : xI} {Lo : xL} (X : Cx D dA s0 p m c cX5_readOrder 4 s args RX5 meth) (hr : meth.sig.returnType = none)   (hf : fX5_readOrder_b203 nf T N I L R x0 x2 = some (Io, Lo)) (V : Iv D dA s0 s T N Z I L R H locs) (hl : lv_has ls 4 [(0, .ref x0), (2, .int x2)]) : W p l e { frames := 8, cells := 0, slots := 0, locals := 172 } s m args below meth c H locs 0 0 (MQ below (xQ D dA s0 none T N Z Io Lo R) args s 0 0 (fun q => s0 ≤ q)) (F0 m 203 ls []) := by
  have hx := X.1.1
  have hb := X.1.2.1
  unfold fX5_readOrder_b203 at hf
  refine lv_aload_n (pc := 203) hx hb dX5_readOrder_203 rfl (lv_at hl 0 rfl) ?_
  replace hf := tg_s hf; obtain ⟨ht1, hf⟩ := hf
  replace hf := bs hf; obtain ⟨a2, ha2, hf⟩ := hf
  refine x_get (pc := 204) X V okX5 ht1 49 (by decide) q1570 (v := va_rf (R x0 49)) rfl dX5_readOrder_204 ?_
  refine x_topr ha2 ?_
  refine lv_iload_n (pc := 207) hx hb dX5_readOrder_207 rfl (lv_at hl 1 rfl) ?_
  refine lv_iconst (pc := 208) (v := (ii 5)) hx hb dX5_readOrder_208 (by decide) ?_
  refine lv_iadd (pc := 209) hx hb dX5_readOrder_209 ?_
  refine lv_aload_n (pc := 210) hx hb dX5_readOrder_210 rfl (lv_at hl 0 rfl) ?_
  refine x_get (pc := 211) X V okX5 ht1 23 (by decide) q1544 (v := .int (I x0 23)) rfl dX5_readOrder_211 ?_
  replace hf := rA_s hf; obtain ⟨j3, hjj3, htj3, hij3, hf⟩ := hf
  replace hf := nm_s hf; obtain ⟨I4, hI4, hf⟩ := hf
  refine x_iast (pc := 214) X V htj3 hij3 hjj3 hI4 dX5_readOrder_214 (fun H locs V => ?_)
  refine lv_aload_n (pc := 215) hx hb dX5_readOrder_215 rfl (lv_at hl 0 rfl) ?_
  refine x_get (pc := 216) X V okX5 ht1 19 (by decide) q1540 (v := .int (I4 x0 19)) rfl dX5_readOrder_216 ?_
  refine lv_if_ne (pc := 219) (tgt := 241) hx hb dX5_readOrder_219 (by decide) (fun c5 => ?_) (fun c5 => ?_)
  · replace hf := if_f hf c5
    exact wX5_readOrder_b241 X hr hf V (lv_sub hl [0, 1] rfl)
  · replace hf := if_t hf c5
    refine lv_aload_n (pc := 222) hx hb dX5_readOrder_222 rfl (lv_at hl 0 rfl) ?_
    refine lv_ldc2 (pc := 223) (v := (jj 294)) hx hb X.1.2.2.2.1 (X.1.2.2.2.2 _ q1956) dX5_readOrder_223 ?_
    replace hf := bs hf; obtain ⟨r6, hk_7, hf⟩ := hf
    refine x_callV0 (pc := 226) (As := [.long (jj 294)]) (rest := []) X V (mX5_isWord l D dA s0 hk_7) okX5 ht1 q1872 q1874 qs67 q129 q1875 ⟨rfl, hsX5_isWord⟩ ⟨Nat.le_of_ble_eq_true rfl, Nat.le_of_ble_eq_true rfl⟩ rfl hl.1 rfl (Nat.le_of_ble_eq_true rfl) dX5_readOrder_226 ⟨Nat.zero_le _, Nat.zero_le _⟩ (fun H locs V => W.eq (g2 := F0 m 229 ls [.int r6]) rfl ?_)
    refine lv_if_eq (pc := 229) (tgt := 241) hx hb dX5_readOrder_229 (by decide) (fun c8 => ?_) (fun c8 => ?_)
    · replace hf := if_t hf c8
      exact wX5_readOrder_b241 X hr hf V (lv_sub hl [0, 1] rfl)
    · replace hf := if_f hf c8
      refine lv_aload_n (pc := 232) hx hb dX5_readOrder_232 rfl (lv_at hl 0 rfl) ?_
      replace hf := b2s hf; obtain ⟨I9, L10, hk_11, hf⟩ := hf
      refine x_callV0 (pc := 233) (As := []) (rest := []) X V (mX5_next l D dA s0 hk_11) okX5 ht1 q1854 q1856 qs65 q129 q1857 ⟨rfl, hsX5_next⟩ ⟨Nat.le_of_ble_eq_true rfl, Nat.le_of_ble_eq_true rfl⟩ rfl hl.1 rfl (Nat.le_of_ble_eq_true rfl) dX5_readOrder_233 ⟨Nat.zero_le _, Nat.zero_le _⟩ (fun H locs V => W.eq (g2 := F0 m 236 ls []) rfl ?_)
      refine lv_aload_n (pc := 236) hx hb dX5_readOrder_236 rfl (lv_at hl 0 rfl) ?_
      refine lv_iconst (pc := 237) (v := (ii 1)) hx hb dX5_readOrder_237 (by decide) ?_
      replace hf := b2s hf; obtain ⟨I12, L13, hk_14, hf⟩ := hf
      refine x_callV0 (pc := 238) (As := [.int (ii 1)]) (rest := []) X V (mX5_readExpression l D dA s0 hk_14) okX5 ht1 q1880 q1882 qs69 q129 q1883 ⟨rfl, hsX5_readExpression⟩ ⟨Nat.le_of_ble_eq_true rfl, Nat.le_of_ble_eq_true rfl⟩ rfl hl.1 rfl (Nat.le_of_ble_eq_true rfl) dX5_readOrder_238 ⟨Nat.zero_le _, Nat.zero_le _⟩ (fun H locs V => W.eq (g2 := F0 m 241 ls []) rfl ?_)
      exact wX5_readOrder_b241 X hr hf V (lv_sub hl [0, 1] rfl)
set_option maxHeartbeats 400000 in
set_option maxRecDepth 100000 in
theorem wX5_readOrder_b155 {nf : Nat} {p : Program} {l : Launch} {e : Env} {s : State} {m : MethodId} {args : Array Value} {below : List Frame} {meth : Method} {c : Code} {D : va_G} {dA : Nat → ClassId} {s0 : Nat} {T : xT} {N : xT} {Z : Nat} {I : xI} {L : xL} {R : xR} {H : Heap} {locs : List Loc} {ls : Array Slot}  {x0 : Nat} {x2 : Int32} {Io : xI} {Lo : xL} (X : Cx D dA s0 p m c cX5_readOrder 4 s args RX5 meth) (hr : meth.sig.returnType = none)   (hf : fX5_readOrder_b155 nf T N I L R x0 x2 = some (Io, Lo)) (V : Iv D dA s0 s T N Z I L R H locs) (hl : lv_has ls 4 [(0, .ref x0), (2, .int x2)]) : W p l e { frames := 8, cells := 0, slots := 0, locals := 172 } s m args below meth c H locs 0 0 (MQ below (xQ D dA s0 none T N Z Io Lo R) args s 0 0 (fun q => s0 ≤ q)) (F0 m 155 ls []) := by
  have hx := X.1.1
  have hb := X.1.2.1
  unfold fX5_readOrder_b155 at hf
  refine lv_aload_n (pc := 155) hx hb dX5_readOrder_155 rfl (lv_at hl 0 rfl) ?_
  replace hf := tg_s hf; obtain ⟨ht1, hf⟩ := hf
  replace hf := bs hf; obtain ⟨a2, ha2, hf⟩ := hf
  refine x_get (pc := 156) X V okX5 ht1 49 (by decide) q1570 (v := va_rf (R x0 49)) rfl dX5_readOrder_156 ?_
  refine x_topr ha2 ?_
  refine lv_iload_n (pc := 159) hx hb dX5_readOrder_159 rfl (lv_at hl 1 rfl) ?_
  refine lv_bipush (pc := 160) (v := (ii 7)) hx hb dX5_readOrder_160 (by decide) ?_
  refine lv_iadd (pc := 162) hx hb dX5_readOrder_162 ?_
  refine lv_iconst (pc := 163) (v := (ii 1)) hx hb dX5_readOrder_163 (by decide) ?_
  replace hf := rA_s hf; obtain ⟨j3, hjj3, htj3, hij3, hf⟩ := hf
  replace hf := nm_s hf; obtain ⟨I4, hI4, hf⟩ := hf
  refine x_iast (pc := 164) X V htj3 hij3 hjj3 hI4 dX5_readOrder_164 (fun H locs V => ?_)
  refine lv_aload_n (pc := 165) hx hb dX5_readOrder_165 rfl (lv_at hl 0 rfl) ?_
  refine x_get (pc := 166) X V okX5 ht1 19 (by decide) q1540 (v := .int (I4 x0 19)) rfl dX5_readOrder_166 ?_
  refine lv_if_ne (pc := 169) (tgt := 203) hx hb dX5_readOrder_169 (by decide) (fun c5 => ?_) (fun c5 => ?_)
  · replace hf := if_f hf c5
    exact wX5_readOrder_b203 X hr hf V (lv_sub hl [0, 1] rfl)
  · replace hf := if_t hf c5
    refine lv_aload_n (pc := 172) hx hb dX5_readOrder_172 rfl (lv_at hl 0 rfl) ?_
    refine lv_ldc2 (pc := 173) (v := (jj 21279923)) hx hb X.1.2.2.2.1 (X.1.2.2.2.2 _ q2171) dX5_readOrder_173 ?_
    replace hf := bs hf; obtain ⟨r6, hk_7, hf⟩ := hf
    refine x_callV0 (pc := 176) (As := [.long (jj 21279923)]) (rest := []) X V (mX5_isWord l D dA s0 hk_7) okX5 ht1 q1872 q1874 qs67 q129 q1875 ⟨rfl, hsX5_isWord⟩ ⟨Nat.le_of_ble_eq_true rfl, Nat.le_of_ble_eq_true rfl⟩ rfl hl.1 rfl (Nat.le_of_ble_eq_true rfl) dX5_readOrder_176 ⟨Nat.zero_le _, Nat.zero_le _⟩ (fun H locs V => W.eq (g2 := F0 m 179 ls [.int r6]) rfl ?_)
    refine lv_if_eq (pc := 179) (tgt := 203) hx hb dX5_readOrder_179 (by decide) (fun c8 => ?_) (fun c8 => ?_)
    · replace hf := if_t hf c8
      exact wX5_readOrder_b203 X hr hf V (lv_sub hl [0, 1] rfl)
    · replace hf := if_f hf c8
      refine lv_aload_n (pc := 182) hx hb dX5_readOrder_182 rfl (lv_at hl 0 rfl) ?_
      replace hf := b2s hf; obtain ⟨I9, L10, hk_11, hf⟩ := hf
      refine x_callV0 (pc := 183) (As := []) (rest := []) X V (mX5_next l D dA s0 hk_11) okX5 ht1 q1854 q1856 qs65 q129 q1857 ⟨rfl, hsX5_next⟩ ⟨Nat.le_of_ble_eq_true rfl, Nat.le_of_ble_eq_true rfl⟩ rfl hl.1 rfl (Nat.le_of_ble_eq_true rfl) dX5_readOrder_183 ⟨Nat.zero_le _, Nat.zero_le _⟩ (fun H locs V => W.eq (g2 := F0 m 186 ls []) rfl ?_)
      refine lv_aload_n (pc := 186) hx hb dX5_readOrder_186 rfl (lv_at hl 0 rfl) ?_
      refine x_get (pc := 187) X V okX5 ht1 49 (by decide) q1570 (v := va_rf (R x0 49)) rfl dX5_readOrder_187 ?_
      refine x_topr ha2 ?_
      refine lv_iload_n (pc := 190) hx hb dX5_readOrder_190 rfl (lv_at hl 1 rfl) ?_
      refine lv_bipush (pc := 191) (v := (ii 7)) hx hb dX5_readOrder_191 (by decide) ?_
      refine lv_iadd (pc := 193) hx hb dX5_readOrder_193 ?_
      refine lv_aload_n (pc := 194) hx hb dX5_readOrder_194 rfl (lv_at hl 0 rfl) ?_
      refine lv_lconst (pc := 195) (v := (jj 1)) hx hb dX5_readOrder_195 (by decide) ?_
      refine lv_ldc2 (pc := 196) (v := (jj 20)) hx hb X.1.2.2.2.1 (X.1.2.2.2.2 _ q1946) dX5_readOrder_196 ?_
      replace hf := b3s hf; obtain ⟨r12, I13, L14, hk_15, hf⟩ := hf
      refine x_callV0 (pc := 199) (As := [.long (jj 1), .long (jj 20)]) (rest := [.int (x2 + (ii 7)), .ref a2]) X V (mX5_number l D dA s0 hk_15) okX5 ht1 q1923 q1925 qs79 q129 q1926 ⟨rfl, hsX5_number⟩ ⟨Nat.le_of_ble_eq_true rfl, Nat.le_of_ble_eq_true rfl⟩ rfl hl.1 rfl (Nat.le_of_ble_eq_true rfl) dX5_readOrder_199 ⟨Nat.zero_le _, Nat.zero_le _⟩ (fun H locs V => W.eq (g2 := F0 m 202 ls [.int r12, .int (x2 + (ii 7)), .ref a2]) rfl ?_)
      replace hf := nm_s hf; obtain ⟨I16, hI16, hf⟩ := hf
      refine x_iast (pc := 202) X V htj3 hij3 hjj3 hI16 dX5_readOrder_202 (fun H locs V => ?_)
      exact wX5_readOrder_b203 X hr hf V (lv_sub hl [0, 1] rfl)
set_option maxHeartbeats 400000 in
set_option maxRecDepth 100000 in
theorem wX5_readOrder_b125 {nf : Nat} {p : Program} {l : Launch} {e : Env} {s : State} {m : MethodId} {args : Array Value} {below : List Frame} {meth : Method} {c : Code} {D : va_G} {dA : Nat → ClassId} {s0 : Nat} {T : xT} {N : xT} {Z : Nat} {I : xI} {L : xL} {R : xR} {H : Heap} {locs : List Loc} {ls : Array Slot}  {x0 : Nat} {x1 : Int32} {x2 : Int32} {Io : xI} {Lo : xL} (X : Cx D dA s0 p m c cX5_readOrder 4 s args RX5 meth) (hr : meth.sig.returnType = none)   (hf : fX5_readOrder_b125 nf T N I L R x0 x1 x2 = some (Io, Lo)) (V : Iv D dA s0 s T N Z I L R H locs) (hl : lv_has ls 4 [(0, .ref x0), (1, .int x1), (2, .int x2)]) : W p l e { frames := 8, cells := 0, slots := 0, locals := 172 } s m args below meth c H locs 0 0 (MQ below (xQ D dA s0 none T N Z Io Lo R) args s 0 0 (fun q => s0 ≤ q)) (F0 m 125 ls []) := by
  have hx := X.1.1
  have hb := X.1.2.1
  unfold fX5_readOrder_b125 at hf
  refine lv_iload_n (pc := 125) hx hb dX5_readOrder_125 rfl (lv_at hl 1 rfl) ?_
  refine lv_iconst (pc := 126) (v := (ii 2)) hx hb dX5_readOrder_126 (by decide) ?_
  refine lv_icmp_ne (pc := 127) (tgt := 155) hx hb dX5_readOrder_127 (by decide) (fun c1 => ?_) (fun c1 => ?_)
  · replace hf := if_f hf c1
    exact wX5_readOrder_b155 X hr hf V (lv_sub hl [0, 2] rfl)
  · replace hf := if_t hf c1
    refine lv_aload_n (pc := 130) hx hb dX5_readOrder_130 rfl (lv_at hl 0 rfl) ?_
    replace hf := tg_s hf; obtain ⟨ht2, hf⟩ := hf
    refine x_get (pc := 131) X V okX5 ht2 19 (by decide) q1540 (v := .int (I x0 19)) rfl dX5_readOrder_131 ?_
    refine lv_if_ne (pc := 134) (tgt := 148) hx hb dX5_readOrder_134 (by decide) (fun c3 => ?_) (fun c3 => ?_)
    · replace hf := if_f hf c3
      refine lv_aload_n (pc := 148) hx hb dX5_readOrder_148 rfl (lv_at hl 0 rfl) ?_
      refine lv_iload_n (pc := 149) hx hb dX5_readOrder_149 rfl (lv_at hl 2 rfl) ?_
      refine lv_iconst (pc := 150) (v := (ii 3)) hx hb dX5_readOrder_150 (by decide) ?_
      refine lv_iadd (pc := 151) hx hb dX5_readOrder_151 ?_
      replace hf := b2s hf; obtain ⟨I4, L5, hk_6, hf⟩ := hf
      refine x_callV0 (pc := 152) (As := [.int (x2 + (ii 3))]) (rest := []) X V (mX5_readSum l D dA s0 hk_6) okX5 ht2 q2166 q2168 qs111 q129 q2169 ⟨rfl, hsX5_readSum⟩ ⟨Nat.le_of_ble_eq_true rfl, Nat.le_of_ble_eq_true rfl⟩ rfl hl.1 rfl (Nat.le_of_ble_eq_true rfl) dX5_readOrder_152 ⟨Nat.zero_le _, Nat.zero_le _⟩ (fun H locs V => W.eq (g2 := F0 m 155 ls []) rfl ?_)
      exact wX5_readOrder_b155 X hr hf V (lv_sub hl [0, 2] rfl)
    · replace hf := if_t hf c3
      refine lv_aload_n (pc := 137) hx hb dX5_readOrder_137 rfl (lv_at hl 0 rfl) ?_
      refine lv_aload_n (pc := 138) hx hb dX5_readOrder_138 rfl (lv_at hl 0 rfl) ?_
      refine lv_ldc2 (pc := 139) (v := (jj 655)) hx hb X.1.2.2.2.1 (X.1.2.2.2.2 _ q2170) dX5_readOrder_139 ?_
      replace hf := bs hf; obtain ⟨r7, hk_8, hf⟩ := hf
      refine x_callV0 (pc := 142) (As := [.long (jj 655)]) (rest := [.ref x0]) X V (mX5_isWord l D dA s0 hk_8) okX5 ht2 q1872 q1874 qs67 q129 q1875 ⟨rfl, hsX5_isWord⟩ ⟨Nat.le_of_ble_eq_true rfl, Nat.le_of_ble_eq_true rfl⟩ rfl hl.1 rfl (Nat.le_of_ble_eq_true rfl) dX5_readOrder_142 ⟨Nat.zero_le _, Nat.zero_le _⟩ (fun H locs V => W.eq (g2 := F0 m 145 ls [.int r7, .ref x0]) rfl ?_)
      replace hf := b2s hf; obtain ⟨I9, L10, hk_11, hf⟩ := hf
      refine x_callV0 (pc := 145) (As := [.int r7]) (rest := []) X V (mX5_must l D dA s0 hk_11) okX5 ht2 q1876 q1878 qs68 q129 q1879 ⟨rfl, hsX5_must⟩ ⟨Nat.le_of_ble_eq_true rfl, Nat.le_of_ble_eq_true rfl⟩ rfl hl.1 rfl (Nat.le_of_ble_eq_true rfl) dX5_readOrder_145 ⟨Nat.zero_le _, Nat.zero_le _⟩ (fun H locs V => W.eq (g2 := F0 m 148 ls []) rfl ?_)
      refine lv_aload_n (pc := 148) hx hb dX5_readOrder_148 rfl (lv_at hl 0 rfl) ?_
      refine lv_iload_n (pc := 149) hx hb dX5_readOrder_149 rfl (lv_at hl 2 rfl) ?_
      refine lv_iconst (pc := 150) (v := (ii 3)) hx hb dX5_readOrder_150 (by decide) ?_
      refine lv_iadd (pc := 151) hx hb dX5_readOrder_151 ?_
      replace hf := b2s hf; obtain ⟨I12, L13, hk_14, hf⟩ := hf
      refine x_callV0 (pc := 152) (As := [.int (x2 + (ii 3))]) (rest := []) X V (mX5_readSum l D dA s0 hk_14) okX5 ht2 q2166 q2168 qs111 q129 q2169 ⟨rfl, hsX5_readSum⟩ ⟨Nat.le_of_ble_eq_true rfl, Nat.le_of_ble_eq_true rfl⟩ rfl hl.1 rfl (Nat.le_of_ble_eq_true rfl) dX5_readOrder_152 ⟨Nat.zero_le _, Nat.zero_le _⟩ (fun H locs V => W.eq (g2 := F0 m 155 ls []) rfl ?_)
      exact wX5_readOrder_b155 X hr hf V (lv_sub hl [0, 2] rfl)
set_option maxHeartbeats 400000 in
set_option maxRecDepth 100000 in
theorem wX5_readOrder_b85 {nf : Nat} {p : Program} {l : Launch} {e : Env} {s : State} {m : MethodId} {args : Array Value} {below : List Frame} {meth : Method} {c : Code} {D : va_G} {dA : Nat → ClassId} {s0 : Nat} {T : xT} {N : xT} {Z : Nat} {R : xR}  {Io : xI} {Lo : xL} (X : Cx D dA s0 p m c cX5_readOrder 4 s args RX5 meth) (hr : meth.sig.returnType = none)   (k : Nat) : ∀ {I : xI} {L : xL} {x0 : Nat} {x1 : Int32} {x2 : Int32} {x3 : Int32} {H : Heap} {locs : List Loc} {ls : Array Slot} , fX5_readOrder_b85 nf T N R k I L x0 x1 x2 x3 = some (Io, Lo) → Iv D dA s0 s T N Z I L R H locs → lv_has ls 4 [(0, .ref x0), (1, .int x1), (2, .int x2), (3, .int x3)] → W p l e { frames := 8, cells := 0, slots := 0, locals := 172 } s m args below meth c H locs 0 0 (MQ below (xQ D dA s0 none T N Z Io Lo R) args s 0 0 (fun q => s0 ≤ q)) (F0 m 85 ls []) := by
  have hx := X.1.1
  have hb := X.1.2.1
  induction k with
  | zero =>
    intro I L x0 x1 x2 x3 H locs ls hf V hl
    exact absurd (show none = some _ from hf) (fun q => nomatch q)
  | succ k ih =>
    intro I L x0 x1 x2 x3 H locs ls hf V hl
    rw [fX5_readOrder_b85] at hf
    refine lv_iload_n (pc := 85) hx hb dX5_readOrder_85 rfl (lv_at hl 3 rfl) ?_
    refine lv_bipush (pc := 86) (v := (ii 8)) hx hb dX5_readOrder_86 (by decide) ?_
    refine lv_icmp_ge (pc := 88) (tgt := 106) hx hb dX5_readOrder_88 (by decide) (fun c1 => ?_) (fun c1 => ?_)
    · replace hf := if_t hf c1
      refine lv_aload_n (pc := 106) hx hb dX5_readOrder_106 rfl (lv_at hl 0 rfl) ?_
      replace hf := tg_s hf; obtain ⟨ht2, hf⟩ := hf
      replace hf := bs hf; obtain ⟨a3, ha3, hf⟩ := hf
      refine x_get (pc := 107) X V okX5 ht2 49 (by decide) q1570 (v := va_rf (R x0 49)) rfl dX5_readOrder_107 ?_
      refine x_topr ha3 ?_
      refine lv_iload_n (pc := 110) hx hb dX5_readOrder_110 rfl (lv_at hl 2 rfl) ?_
      refine lv_iload_n (pc := 111) hx hb dX5_readOrder_111 rfl (lv_at hl 1 rfl) ?_
      replace hf := rA_s hf; obtain ⟨j4, hjj4, htj4, hij4, hf⟩ := hf
      replace hf := nm_s hf; obtain ⟨I5, hI5, hf⟩ := hf
      refine x_iast (pc := 112) X V htj4 hij4 hjj4 hI5 dX5_readOrder_112 (fun H locs V => ?_)
      refine lv_iload_n (pc := 113) hx hb dX5_readOrder_113 rfl (lv_at hl 1 rfl) ?_
      refine lv_iconst (pc := 114) (v := (ii 3)) hx hb dX5_readOrder_114 (by decide) ?_
      refine lv_icmp_eq (pc := 115) (tgt := 125) hx hb dX5_readOrder_115 (by decide) (fun c6 => ?_) (fun c6 => ?_)
      · replace hf := if_t hf c6
        exact wX5_readOrder_b125 X hr hf V (lv_sub hl [0, 1, 2] rfl)
      · replace hf := if_f hf c6
        refine lv_aload_n (pc := 118) hx hb dX5_readOrder_118 rfl (lv_at hl 0 rfl) ?_
        refine lv_iload_n (pc := 119) hx hb dX5_readOrder_119 rfl (lv_at hl 2 rfl) ?_
        refine lv_iconst (pc := 120) (v := (ii 1)) hx hb dX5_readOrder_120 (by decide) ?_
        refine lv_iadd (pc := 121) hx hb dX5_readOrder_121 ?_
        replace hf := b2s hf; obtain ⟨I7, L8, hk_9, hf⟩ := hf
        refine x_callV0 (pc := 122) (As := [.int (x2 + (ii 1))]) (rest := []) X V (mX5_readSum l D dA s0 hk_9) okX5 ht2 q2166 q2168 qs111 q129 q2169 ⟨rfl, hsX5_readSum⟩ ⟨Nat.le_of_ble_eq_true rfl, Nat.le_of_ble_eq_true rfl⟩ rfl hl.1 rfl (Nat.le_of_ble_eq_true rfl) dX5_readOrder_122 ⟨Nat.zero_le _, Nat.zero_le _⟩ (fun H locs V => W.eq (g2 := F0 m 125 ls []) rfl ?_)
        exact wX5_readOrder_b125 X hr hf V (lv_sub hl [0, 1, 2] rfl)
    · replace hf := if_f hf c1
      refine lv_aload_n (pc := 91) hx hb dX5_readOrder_91 rfl (lv_at hl 0 rfl) ?_
      replace hf := tg_s hf; obtain ⟨ht10, hf⟩ := hf
      replace hf := bs hf; obtain ⟨a11, ha11, hf⟩ := hf
      refine x_get (pc := 92) X V okX5 ht10 49 (by decide) q1570 (v := va_rf (R x0 49)) rfl dX5_readOrder_92 ?_
      refine x_topr ha11 ?_
      refine lv_iload_n (pc := 95) hx hb dX5_readOrder_95 rfl (lv_at hl 2 rfl) ?_
      refine lv_iload_n (pc := 96) hx hb dX5_readOrder_96 rfl (lv_at hl 3 rfl) ?_
      refine lv_iadd (pc := 97) hx hb dX5_readOrder_97 ?_
      refine lv_iconst (pc := 98) (v := (ii 0)) hx hb dX5_readOrder_98 (by decide) ?_
      replace hf := rA_s hf; obtain ⟨j12, hjj12, htj12, hij12, hf⟩ := hf
      replace hf := nm_s hf; obtain ⟨I13, hI13, hf⟩ := hf
      refine x_iast (pc := 99) X V htj12 hij12 hjj12 hI13 dX5_readOrder_99 (fun H locs V => ?_)
      replace hf := nm_s hf; obtain ⟨u14, hu14, hf⟩ := hf
      refine lv_iinc (pc := 100) (v := u14) (lv' := [(3, .int u14), (0, .ref x0), (1, .int x1), (2, .int x2)]) hx hb dX5_readOrder_100 hl (k := 3) rfl (by rw [hu14]; rfl) (by decide) rfl (fun ls hl => ?_)
      refine lv_goto (pc := 103) (tgt := 85) hx hb dX5_readOrder_103 (by decide) ?_
      exact ih hf V (lv_sub hl [1, 2, 3, 0] rfl)
set_option maxHeartbeats 400000 in
set_option maxRecDepth 100000 in
theorem wX5_readOrder_b54 {nf : Nat} {p : Program} {l : Launch} {e : Env} {s : State} {m : MethodId} {args : Array Value} {below : List Frame} {meth : Method} {c : Code} {D : va_G} {dA : Nat → ClassId} {s0 : Nat} {T : xT} {N : xT} {Z : Nat} {I : xI} {L : xL} {R : xR} {H : Heap} {locs : List Loc} {ls : Array Slot}  {x0 : Nat} {x1 : Int32} {z0 : Nat} {z1 : Int32} {Io : xI} {Lo : xL} (X : Cx D dA s0 p m c cX5_readOrder 4 s args RX5 meth) (hr : meth.sig.returnType = none)   (hf : fX5_readOrder_b54 nf T N I L R x0 x1 z0 z1 = some (Io, Lo)) (V : Iv D dA s0 s T N Z I L R H locs) (hl : lv_has ls 4 [(0, .ref x0), (1, .int x1)]) : W p l e { frames := 8, cells := 0, slots := 0, locals := 172 } s m args below meth c H locs 0 0 (MQ below (xQ D dA s0 none T N Z Io Lo R) args s 0 0 (fun q => s0 ≤ q)) (F0 m 54 ls [.int z1, .ref z0]) := by
  have hx := X.1.1
  have hb := X.1.2.1
  unfold fX5_readOrder_b54 at hf
  replace hf := tg_s hf; obtain ⟨ht4, hf⟩ := hf
  replace hf := b2s hf; obtain ⟨I1, L2, hk_3, hf⟩ := hf
  refine x_callV0 (pc := 54) (As := [.int z1]) (rest := []) X V (mX5_must l D dA s0 hk_3) okX5 ht4 q1876 q1878 qs68 q129 q1879 ⟨rfl, hsX5_must⟩ ⟨Nat.le_of_ble_eq_true rfl, Nat.le_of_ble_eq_true rfl⟩ rfl hl.1 rfl (Nat.le_of_ble_eq_true rfl) dX5_readOrder_54 ⟨Nat.zero_le _, Nat.zero_le _⟩ (fun H locs V => W.eq (g2 := F0 m 57 ls []) rfl ?_)
  refine lv_aload_n (pc := 57) hx hb dX5_readOrder_57 rfl (lv_at hl 0 rfl) ?_
  replace hf := tg_s hf; obtain ⟨ht5, hf⟩ := hf
  refine x_get (pc := 58) X V okX5 ht5 19 (by decide) q1540 (v := .int (I1 x0 19)) rfl dX5_readOrder_58 ?_
  refine lv_if_eq (pc := 61) (tgt := 65) hx hb dX5_readOrder_61 (by decide) (fun c6 => ?_) (fun c6 => ?_)
  · replace hf := if_t hf c6
    refine lv_bipush (pc := 65) (v := (ii 8)) hx hb dX5_readOrder_65 (by decide) ?_
    refine lv_aload_n (pc := 67) hx hb dX5_readOrder_67 rfl (lv_at hl 0 rfl) ?_
    refine x_get (pc := 68) X V okX5 ht5 21 (by decide) q1542 (v := .int (I1 x0 21)) rfl dX5_readOrder_68 ?_
    refine lv_imul (pc := 71) hx hb dX5_readOrder_71 ?_
    replace hf := nm_s hf; obtain ⟨u7, hu7, hf⟩ := hf
    refine x_topi hu7 ?_
    refine lv_istore_n (pc := 72) (lv' := [(2, .int u7), (0, .ref x0), (1, .int x1)]) hx hb dX5_readOrder_72 rfl hl (by decide) rfl (fun ls hl => ?_)
    refine lv_aload_n (pc := 73) hx hb dX5_readOrder_73 rfl (lv_at hl 1 rfl) ?_
    refine lv_dup (pc := 74) hx hb dX5_readOrder_74 rfl ?_
    refine x_get (pc := 75) X V okX5 ht5 21 (by decide) q1542 (v := .int (I1 x0 21)) rfl dX5_readOrder_75 ?_
    refine lv_iconst (pc := 78) (v := (ii 1)) hx hb dX5_readOrder_78 (by decide) ?_
    refine lv_iadd (pc := 79) hx hb dX5_readOrder_79 ?_
    replace hf := nm_s hf; obtain ⟨I8, hI8, hf⟩ := hf
    refine x_puti (pc := 80) X V okX5 (by decide) ht5 21 (by decide) q1542 (Or.inl rfl) hI8 (fun _ _ _ => rfl) rfl rfl dX5_readOrder_80 (fun H locs V => ?_)
    refine lv_iconst (pc := 83) (v := (ii 0)) hx hb dX5_readOrder_83 (by decide) ?_
    refine lv_istore_n (pc := 84) (lv' := [(3, .int (ii 0)), (2, .int u7), (0, .ref x0), (1, .int x1)]) hx hb dX5_readOrder_84 rfl hl (by decide) rfl (fun ls hl => ?_)
    exact wX5_readOrder_b85 X hr nf hf V (lv_sub hl [2, 3, 1, 0] rfl)
  · replace hf := if_f hf c6
    cases hf
    exact x_vret (pc := 64) X V hr dX5_readOrder_64
set_option maxHeartbeats 400000 in
set_option maxRecDepth 100000 in
theorem wX5_readOrder_b4 {nf : Nat} {p : Program} {l : Launch} {e : Env} {s : State} {m : MethodId} {args : Array Value} {below : List Frame} {meth : Method} {c : Code} {D : va_G} {dA : Nat → ClassId} {s0 : Nat} {T : xT} {N : xT} {Z : Nat} {R : xR}  {Io : xI} {Lo : xL} (X : Cx D dA s0 p m c cX5_readOrder 4 s args RX5 meth) (hr : meth.sig.returnType = none)   (k : Nat) : ∀ {I : xI} {L : xL} {x0 : Nat} {x1 : Int32} {x2 : Int32} {H : Heap} {locs : List Loc} {ls : Array Slot} , fX5_readOrder_b4 nf T N R k I L x0 x1 x2 = some (Io, Lo) → Iv D dA s0 s T N Z I L R H locs → lv_has ls 4 [(0, .ref x0), (1, .int x1), (2, .int x2)] → W p l e { frames := 8, cells := 0, slots := 0, locals := 172 } s m args below meth c H locs 0 0 (MQ below (xQ D dA s0 none T N Z Io Lo R) args s 0 0 (fun q => s0 ≤ q)) (F0 m 4 ls []) := by
  have hx := X.1.1
  have hb := X.1.2.1
  induction k with
  | zero =>
    intro I L x0 x1 x2 H locs ls hf V hl
    exact absurd (show none = some _ from hf) (fun q => nomatch q)
  | succ k ih =>
    intro I L x0 x1 x2 H locs ls hf V hl
    rw [fX5_readOrder_b4] at hf
    refine lv_iload_n (pc := 4) hx hb dX5_readOrder_4 rfl (lv_at hl 2 rfl) ?_
    refine lv_iconst (pc := 5) (v := (ii 4)) hx hb dX5_readOrder_5 (by decide) ?_
    refine lv_icmp_ge (pc := 6) (tgt := 34) hx hb dX5_readOrder_6 (by decide) (fun c1 => ?_) (fun c1 => ?_)
    · replace hf := if_t hf c1
      refine lv_aload_n (pc := 34) hx hb dX5_readOrder_34 rfl (lv_at hl 0 rfl) ?_
      refine lv_iload_n (pc := 35) hx hb dX5_readOrder_35 rfl (lv_at hl 1 rfl) ?_
      refine lv_iconst (pc := 36) (v := (-1 : Int32)) hx hb dX5_readOrder_36 (by decide) ?_
      refine lv_icmp_eq (pc := 37) (tgt := 53) hx hb dX5_readOrder_37 (by decide) (fun c2 => ?_) (fun c2 => ?_)
      · replace hf := if_t hf c2
        refine lv_iconst (pc := 53) (v := (ii 0)) hx hb dX5_readOrder_53 (by decide) ?_
        exact wX5_readOrder_b54 X hr hf V (lv_sub hl [0, 1] rfl)
      · replace hf := if_f hf c2
        refine lv_aload_n (pc := 40) hx hb dX5_readOrder_40 rfl (lv_at hl 0 rfl) ?_
        replace hf := tg_s hf; obtain ⟨ht3, hf⟩ := hf
        refine x_get (pc := 41) X V okX5 ht3 21 (by decide) q1542 (v := .int (I x0 21)) rfl dX5_readOrder_41 ?_
        refine lv_bipush (pc := 44) (v := (ii 12)) hx hb dX5_readOrder_44 (by decide) ?_
        refine lv_icmp_ge (pc := 46) (tgt := 53) hx hb dX5_readOrder_46 (by decide) (fun c4 => ?_) (fun c4 => ?_)
        · replace hf := if_t hf c4
          refine lv_iconst (pc := 53) (v := (ii 0)) hx hb dX5_readOrder_53 (by decide) ?_
          exact wX5_readOrder_b54 X hr hf V (lv_sub hl [0, 1] rfl)
        · replace hf := if_f hf c4
          refine lv_iconst (pc := 49) (v := (ii 1)) hx hb dX5_readOrder_49 (by decide) ?_
          refine lv_goto (pc := 50) (tgt := 54) hx hb dX5_readOrder_50 (by decide) ?_
          exact wX5_readOrder_b54 X hr hf V (lv_sub hl [0, 1] rfl)
    · replace hf := if_f hf c1
      refine lv_aload_n (pc := 9) hx hb dX5_readOrder_9 rfl (lv_at hl 0 rfl) ?_
      refine lv_aload_n (pc := 10) hx hb dX5_readOrder_10 rfl (lv_at hl 0 rfl) ?_
      replace hf := tg_s hf; obtain ⟨ht5, hf⟩ := hf
      replace hf := bs hf; obtain ⟨a6, ha6, hf⟩ := hf
      refine x_get (pc := 11) X V okX5 ht5 48 (by decide) q1569 (v := va_rf (R x0 48)) rfl dX5_readOrder_11 ?_
      refine x_topr ha6 ?_
      refine lv_iload_n (pc := 14) hx hb dX5_readOrder_14 rfl (lv_at hl 2 rfl) ?_
      replace hf := rA_s hf; obtain ⟨j7, hjj7, htj7, hij7, hf⟩ := hf
      refine x_lald (pc := 15) X V htj7 hij7 hjj7 dX5_readOrder_15 ?_
      replace hf := bs hf; obtain ⟨r8, hk_9, hf⟩ := hf
      refine x_callV0 (pc := 16) (As := [.long (L a6 j7)]) (rest := []) X V (mX5_isWord l D dA s0 hk_9) okX5 ht5 q1872 q1874 qs67 q129 q1875 ⟨rfl, hsX5_isWord⟩ ⟨Nat.le_of_ble_eq_true rfl, Nat.le_of_ble_eq_true rfl⟩ rfl hl.1 rfl (Nat.le_of_ble_eq_true rfl) dX5_readOrder_16 ⟨Nat.zero_le _, Nat.zero_le _⟩ (fun H locs V => W.eq (g2 := F0 m 19 ls [.int r8]) rfl ?_)
      refine lv_if_eq (pc := 19) (tgt := 26) hx hb dX5_readOrder_19 (by decide) (fun c10 => ?_) (fun c10 => ?_)
      · replace hf := if_t hf c10
        refine lv_iload_n (pc := 26) hx hb dX5_readOrder_26 rfl (lv_at hl 1 rfl) ?_
        refine lv_istore_n (pc := 27) (lv' := [(1, .int x1), (0, .ref x0), (2, .int x2)]) hx hb dX5_readOrder_27 rfl hl (by decide) rfl (fun ls hl => ?_)
        replace hf := nm_s hf; obtain ⟨u11, hu11, hf⟩ := hf
        refine lv_iinc (pc := 28) (v := u11) (lv' := [(2, .int u11), (1, .int x1), (0, .ref x0)]) hx hb dX5_readOrder_28 hl (k := 2) rfl (by rw [hu11]; rfl) (by decide) rfl (fun ls hl => ?_)
        refine lv_goto (pc := 31) (tgt := 4) hx hb dX5_readOrder_31 (by decide) ?_
        exact ih hf V (lv_sub hl [2, 1, 0] rfl)
      · replace hf := if_f hf c10
        refine lv_iload_n (pc := 22) hx hb dX5_readOrder_22 rfl (lv_at hl 2 rfl) ?_
        refine lv_goto (pc := 23) (tgt := 27) hx hb dX5_readOrder_23 (by decide) ?_
        refine lv_istore_n (pc := 27) (lv' := [(1, .int x2), (0, .ref x0), (2, .int x2)]) hx hb dX5_readOrder_27 rfl hl (by decide) rfl (fun ls hl => ?_)
        replace hf := nm_s hf; obtain ⟨u12, hu12, hf⟩ := hf
        refine lv_iinc (pc := 28) (v := u12) (lv' := [(2, .int u12), (1, .int x2), (0, .ref x0)]) hx hb dX5_readOrder_28 hl (k := 2) rfl (by rw [hu12]; rfl) (by decide) rfl (fun ls hl => ?_)
        refine lv_goto (pc := 31) (tgt := 4) hx hb dX5_readOrder_31 (by decide) ?_
        exact ih hf V (lv_sub hl [2, 1, 0] rfl)
set_option maxHeartbeats 400000 in
set_option maxRecDepth 100000 in
theorem wX5_readOrder_e {nf : Nat} {p : Program} {l : Launch} {e : Env} {s : State} {m : MethodId} {args : Array Value} {below : List Frame} {meth : Method} {c : Code} {D : va_G} {dA : Nat → ClassId} {s0 : Nat} {T : xT} {N : xT} {Z : Nat} {I : xI} {L : xL} {R : xR} {H : Heap} {locs : List Loc} {ls : Array Slot} {x0 : Nat} {Io : xI} {Lo : xL} (X : Cx D dA s0 p m c cX5_readOrder 4 s args RX5 meth) (hr : meth.sig.returnType = none) (hf : fX5_readOrder nf T N I L R x0 = some (Io, Lo)) (V : Iv D dA s0 s T N Z I L R H locs) (hl : lv_has ls 4 [(0, .ref x0)]) : W p l e { frames := 8, cells := 0, slots := 0, locals := 172 } s m args below meth c H locs 0 0 (MQ below (xQ D dA s0 none T N Z Io Lo R) args s 0 0 (fun q => s0 ≤ q)) (F0 m 0 ls []) := by
  have hx := X.1.1
  have hb := X.1.2.1
  unfold fX5_readOrder at hf
  refine lv_iconst (pc := 0) (v := (-1 : Int32)) hx hb dX5_readOrder_0 (by decide) ?_
  refine lv_istore_n (pc := 1) (lv' := [(1, .int (-1 : Int32)), (0, .ref x0)]) hx hb dX5_readOrder_1 rfl hl (by decide) rfl (fun ls hl => ?_)
  refine lv_iconst (pc := 2) (v := (ii 0)) hx hb dX5_readOrder_2 (by decide) ?_
  refine lv_istore_n (pc := 3) (lv' := [(2, .int (ii 0)), (1, .int (-1 : Int32)), (0, .ref x0)]) hx hb dX5_readOrder_3 rfl hl (by decide) rfl (fun ls hl => ?_)
  exact wX5_readOrder_b4 X hr nf hf V (lv_sub hl [2, 1, 0] rfl)
theorem mX5_readOrder {nf : Nat} (l : Launch) (D : va_G) (dA : Nat → ClassId) (s0 : Nat) {T : xT} {N : xT} {Z : Nat} {I : xI} {L : xL} {R : xR} {x0 : Nat} {Io : xI} {Lo : xL} (hf : fX5_readOrder nf T N I L R x0 = some (Io, Lo)) : XMet l D dA s0 yX5_readOrder (ws_ yX5_readOrder cX5_readOrder 4 (none)) (8) (172) [.ref x0] T N Z I L R none T N Z Io Lo R 0 0 :=
  x_start (own := RX5) rfl (by decide) (Nat.le_of_ble_eq_true rfl) (lv := [(0, .ref x0)]) rfl (fun p e s m below meth c ls X hr hini V hl => wX5_readOrder_e X hr hf V hl)
set_option maxHeartbeats 400000 in
set_option maxRecDepth 100000 in
theorem wX5_namedOnes_b4 {nf : Nat} {p : Program} {l : Launch} {e : Env} {s : State} {m : MethodId} {args : Array Value} {below : List Frame} {meth : Method} {c : Code} {D : va_G} {dA : Nat → ClassId} {s0 : Nat} {T : xT} {N : xT} {Z : Nat} {I : xI} {L : xL} {R : xR}  {ro : Int32} (X : Cx D dA s0 p m c cX5_namedOnes 3 s args RX5 meth) (hr : meth.sig.returnType = (some .int))   (k : Nat) : ∀ {x0 : Nat} {x1 : Int32} {x2 : Int32} {H : Heap} {locs : List Loc} {ls : Array Slot} , fX5_namedOnes_b4 nf T N I R k x0 x1 x2 = some ro → Iv D dA s0 s T N Z I L R H locs → lv_has ls 3 [(0, .ref x0), (1, .int x1), (2, .int x2)] → W p l e { frames := 0, cells := 0, slots := 0, locals := 0 } s m args below meth c H locs 0 0 (MQ below (xQ D dA s0 (some (.int ro)) T N Z I L R) args s 0 0 (fun q => s0 ≤ q)) (F0 m 4 ls []) := by
  have hx := X.1.1
  have hb := X.1.2.1
  induction k with
  | zero =>
    intro x0 x1 x2 H locs ls hf V hl
    exact absurd (show none = some _ from hf) (fun q => nomatch q)
  | succ k ih =>
    intro x0 x1 x2 H locs ls hf V hl
    rw [fX5_namedOnes_b4] at hf
    refine lv_iload_n (pc := 4) hx hb dX5_namedOnes_4 rfl (lv_at hl 2 rfl) ?_
    refine lv_aload_n (pc := 5) hx hb dX5_namedOnes_5 rfl (lv_at hl 0 rfl) ?_
    replace hf := tg_s hf; obtain ⟨ht1, hf⟩ := hf
    replace hf := bs hf; obtain ⟨a2, ha2, hf⟩ := hf
    refine x_get (pc := 6) X V okX5 ht1 3 (by decide) q1524 (v := va_rf (R x0 3)) rfl dX5_namedOnes_6 ?_
    refine x_topr ha2 ?_
    refine lv_iconst (pc := 9) (v := (ii 0)) hx hb dX5_namedOnes_9 (by decide) ?_
    replace hf := rA_s hf; obtain ⟨j3, hjj3, htj3, hij3, hf⟩ := hf
    refine x_iald (pc := 10) X V htj3 hij3 hjj3 dX5_namedOnes_10 ?_
    refine lv_icmp_ge (pc := 11) (tgt := 41) hx hb dX5_namedOnes_11 (by decide) (fun c4 => ?_) (fun c4 => ?_)
    · replace hf := if_t hf c4
      refine lv_iload_n (pc := 41) hx hb dX5_namedOnes_41 rfl (lv_at hl 1 rfl) ?_
      cases hf
      exact x_iret (pc := 42) X V hr dX5_namedOnes_42
    · replace hf := if_f hf c4
      refine lv_iload_n (pc := 14) hx hb dX5_namedOnes_14 rfl (lv_at hl 1 rfl) ?_
      refine lv_aload_n (pc := 15) hx hb dX5_namedOnes_15 rfl (lv_at hl 0 rfl) ?_
      refine x_get (pc := 16) X V okX5 ht1 3 (by decide) q1524 (v := va_rf (R x0 3)) rfl dX5_namedOnes_16 ?_
      refine x_topr ha2 ?_
      refine lv_bipush (pc := 19) (v := (ii 8)) hx hb dX5_namedOnes_19 (by decide) ?_
      refine lv_iload_n (pc := 21) hx hb dX5_namedOnes_21 rfl (lv_at hl 2 rfl) ?_
      refine lv_iadd (pc := 22) hx hb dX5_namedOnes_22 ?_
      replace hf := rA_s hf; obtain ⟨j5, hjj5, htj5, hij5, hf⟩ := hf
      refine x_iald (pc := 23) X V htj5 hij5 hjj5 dX5_namedOnes_23 ?_
      refine lv_iconst (pc := 24) (v := (-1 : Int32)) hx hb dX5_namedOnes_24 (by decide) ?_
      refine lv_icmp_ne (pc := 25) (tgt := 32) hx hb dX5_namedOnes_25 (by decide) (fun c6 => ?_) (fun c6 => ?_)
      · replace hf := if_f hf c6
        refine lv_iconst (pc := 32) (v := (ii 1)) hx hb dX5_namedOnes_32 (by decide) ?_
        refine lv_iadd (pc := 33) hx hb dX5_namedOnes_33 ?_
        replace hf := nm_s hf; obtain ⟨u7, hu7, hf⟩ := hf
        refine x_topi hu7 ?_
        refine lv_istore_n (pc := 34) (lv' := [(1, .int u7), (0, .ref x0), (2, .int x2)]) hx hb dX5_namedOnes_34 rfl hl (by decide) rfl (fun ls hl => ?_)
        replace hf := nm_s hf; obtain ⟨u8, hu8, hf⟩ := hf
        refine lv_iinc (pc := 35) (v := u8) (lv' := [(2, .int u8), (1, .int u7), (0, .ref x0)]) hx hb dX5_namedOnes_35 hl (k := 2) rfl (by rw [hu8]; rfl) (by decide) rfl (fun ls hl => ?_)
        refine lv_goto (pc := 38) (tgt := 4) hx hb dX5_namedOnes_38 (by decide) ?_
        exact ih hf V (lv_sub hl [2, 1, 0] rfl)
      · replace hf := if_t hf c6
        refine lv_iconst (pc := 28) (v := (ii 0)) hx hb dX5_namedOnes_28 (by decide) ?_
        refine lv_goto (pc := 29) (tgt := 33) hx hb dX5_namedOnes_29 (by decide) ?_
        refine lv_iadd (pc := 33) hx hb dX5_namedOnes_33 ?_
        replace hf := nm_s hf; obtain ⟨u9, hu9, hf⟩ := hf
        refine x_topi hu9 ?_
        refine lv_istore_n (pc := 34) (lv' := [(1, .int u9), (0, .ref x0), (2, .int x2)]) hx hb dX5_namedOnes_34 rfl hl (by decide) rfl (fun ls hl => ?_)
        replace hf := nm_s hf; obtain ⟨u10, hu10, hf⟩ := hf
        refine lv_iinc (pc := 35) (v := u10) (lv' := [(2, .int u10), (1, .int u9), (0, .ref x0)]) hx hb dX5_namedOnes_35 hl (k := 2) rfl (by rw [hu10]; rfl) (by decide) rfl (fun ls hl => ?_)
        refine lv_goto (pc := 38) (tgt := 4) hx hb dX5_namedOnes_38 (by decide) ?_
        exact ih hf V (lv_sub hl [2, 1, 0] rfl)
set_option maxHeartbeats 400000 in
set_option maxRecDepth 100000 in
theorem wX5_namedOnes_e {nf : Nat} {p : Program} {l : Launch} {e : Env} {s : State} {m : MethodId} {args : Array Value} {below : List Frame} {meth : Method} {c : Code} {D : va_G} {dA : Nat → ClassId} {s0 : Nat} {T : xT} {N : xT} {Z : Nat} {I : xI} {L : xL} {R : xR} {H : Heap} {locs : List Loc} {ls : Array Slot} {x0 : Nat} {ro : Int32} (X : Cx D dA s0 p m c cX5_namedOnes 3 s args RX5 meth) (hr : meth.sig.returnType = (some .int)) (hf : fX5_namedOnes nf T N I R x0 = some ro) (V : Iv D dA s0 s T N Z I L R H locs) (hl : lv_has ls 3 [(0, .ref x0)]) : W p l e { frames := 0, cells := 0, slots := 0, locals := 0 } s m args below meth c H locs 0 0 (MQ below (xQ D dA s0 (some (.int ro)) T N Z I L R) args s 0 0 (fun q => s0 ≤ q)) (F0 m 0 ls []) := by
  have hx := X.1.1
  have hb := X.1.2.1
  unfold fX5_namedOnes at hf
  refine lv_iconst (pc := 0) (v := (ii 0)) hx hb dX5_namedOnes_0 (by decide) ?_
  refine lv_istore_n (pc := 1) (lv' := [(1, .int (ii 0)), (0, .ref x0)]) hx hb dX5_namedOnes_1 rfl hl (by decide) rfl (fun ls hl => ?_)
  refine lv_iconst (pc := 2) (v := (ii 0)) hx hb dX5_namedOnes_2 (by decide) ?_
  refine lv_istore_n (pc := 3) (lv' := [(2, .int (ii 0)), (1, .int (ii 0)), (0, .ref x0)]) hx hb dX5_namedOnes_3 rfl hl (by decide) rfl (fun ls hl => ?_)
  exact wX5_namedOnes_b4 X hr nf hf V (lv_sub hl [2, 1, 0] rfl)
theorem mX5_namedOnes {nf : Nat} (l : Launch) (D : va_G) (dA : Nat → ClassId) (s0 : Nat) {T : xT} {N : xT} {Z : Nat} {I : xI} {L : xL} {R : xR} {x0 : Nat} {ro : Int32} (hf : fX5_namedOnes nf T N I R x0 = some ro) : XMet l D dA s0 yX5_namedOnes (ws_ yX5_namedOnes cX5_namedOnes 3 ((some .int))) (0) (0) [.ref x0] T N Z I L R (some (.int ro)) T N Z I L R 0 0 :=
  x_start (own := RX5) rfl (by decide) (Nat.le_of_ble_eq_true rfl) (lv := [(0, .ref x0)]) rfl (fun p e s m below meth c ls X hr hini V hl => wX5_namedOnes_e X hr hf V hl)
set_option maxHeartbeats 400000 in
set_option maxRecDepth 100000 in
theorem wX5_sumOf_e {nf : Nat} {p : Program} {l : Launch} {e : Env} {s : State} {m : MethodId} {args : Array Value} {below : List Frame} {meth : Method} {c : Code} {D : va_G} {dA : Nat → ClassId} {s0 : Nat} {T : xT} {N : xT} {Z : Nat} {I : xI} {L : xL} {R : xR} {H : Heap} {locs : List Loc} {ls : Array Slot} {x0 : Nat} {x1 : Int32} {ro : Int32} {Io : xI} {Lo : xL} (X : Cx D dA s0 p m c cX5_sumOf 2 s args RX5 meth) (hr : meth.sig.returnType = (some .int)) (hf : fX5_sumOf nf T N I L R x0 x1 = some (ro, Io, Lo)) (V : Iv D dA s0 s T N Z I L R H locs) (hl : lv_has ls 2 [(0, .ref x0), (1, .int x1)]) : W p l e { frames := 3, cells := 0, slots := 0, locals := 72 } s m args below meth c H locs 0 0 (MQ below (xQ D dA s0 (some (.int ro)) T N Z Io Lo R) args s 0 0 (fun q => s0 ≤ q)) (F0 m 0 ls []) := by
  have hx := X.1.1
  have hb := X.1.2.1
  unfold fX5_sumOf at hf
  refine lv_aload_n (pc := 0) hx hb dX5_sumOf_0 rfl (lv_at hl 0 rfl) ?_
  replace hf := tg_s hf; obtain ⟨ht1, hf⟩ := hf
  refine x_get (pc := 1) X V okX5 ht1 53 (by decide) q1574 (v := .int (I x0 53)) rfl dX5_sumOf_1 ?_
  refine lv_if_ne (pc := 4) (tgt := 24) hx hb dX5_sumOf_4 (by decide) (fun c2 => ?_) (fun c2 => ?_)
  · replace hf := if_f hf c2
    refine lv_iconst (pc := 24) (v := (-1 : Int32)) hx hb dX5_sumOf_24 (by decide) ?_
    cases hf
    exact x_iret (pc := 25) X V hr dX5_sumOf_25
  · replace hf := if_t hf c2
    refine lv_aload_n (pc := 7) hx hb dX5_sumOf_7 rfl (lv_at hl 0 rfl) ?_
    replace hf := bs hf; obtain ⟨a3, ha3, hf⟩ := hf
    refine x_get (pc := 8) X V okX5 ht1 49 (by decide) q1570 (v := va_rf (R x0 49)) rfl dX5_sumOf_8 ?_
    refine x_topr ha3 ?_
    refine lv_iload_n (pc := 11) hx hb dX5_sumOf_11 rfl (lv_at hl 1 rfl) ?_
    replace hf := rA_s hf; obtain ⟨j4, hjj4, htj4, hij4, hf⟩ := hf
    refine x_iald (pc := 12) X V htj4 hij4 hjj4 dX5_sumOf_12 ?_
    refine lv_aload_n (pc := 13) hx hb dX5_sumOf_13 rfl (lv_at hl 0 rfl) ?_
    refine x_get (pc := 14) X V okX5 ht1 49 (by decide) q1570 (v := va_rf (R x0 49)) rfl dX5_sumOf_14 ?_
    refine x_topr ha3 ?_
    refine lv_iload_n (pc := 17) hx hb dX5_sumOf_17 rfl (lv_at hl 1 rfl) ?_
    refine lv_iconst (pc := 18) (v := (ii 1)) hx hb dX5_sumOf_18 (by decide) ?_
    refine lv_iadd (pc := 19) hx hb dX5_sumOf_19 ?_
    replace hf := rA_s hf; obtain ⟨j5, hjj5, htj5, hij5, hf⟩ := hf
    refine x_iald (pc := 20) X V htj5 hij5 hjj5 dX5_sumOf_20 ?_
    refine lv_icmp_ne (pc := 21) (tgt := 26) hx hb dX5_sumOf_21 (by decide) (fun c6 => ?_) (fun c6 => ?_)
    · replace hf := if_f hf c6
      refine lv_aload_n (pc := 26) hx hb dX5_sumOf_26 rfl (lv_at hl 0 rfl) ?_
      refine lv_iconst (pc := 27) (v := (ii 1)) hx hb dX5_sumOf_27 (by decide) ?_
      replace hf := nm_s hf; obtain ⟨I7, hI7, hf⟩ := hf
      refine x_puti (pc := 28) X V okX5 (by decide) ht1 20 (by decide) q1541 (Or.inl rfl) hI7 (fun _ _ _ => rfl) (by decide) (by decide) dX5_sumOf_28 (fun H locs V => ?_)
      refine lv_aload_n (pc := 31) hx hb dX5_sumOf_31 rfl (lv_at hl 0 rfl) ?_
      refine lv_aload_n (pc := 32) hx hb dX5_sumOf_32 rfl (lv_at hl 0 rfl) ?_
      refine x_get (pc := 33) X V okX5 ht1 49 (by decide) q1570 (v := va_rf (R x0 49)) rfl dX5_sumOf_33 ?_
      refine x_topr ha3 ?_
      refine lv_iload_n (pc := 36) hx hb dX5_sumOf_36 rfl (lv_at hl 1 rfl) ?_
      refine x_iald (pc := 37) X V htj4 hij4 hjj4 dX5_sumOf_37 ?_
      refine lv_aload_n (pc := 38) hx hb dX5_sumOf_38 rfl (lv_at hl 0 rfl) ?_
      refine x_get (pc := 39) X V okX5 ht1 49 (by decide) q1570 (v := va_rf (R x0 49)) rfl dX5_sumOf_39 ?_
      refine x_topr ha3 ?_
      refine lv_iload_n (pc := 42) hx hb dX5_sumOf_42 rfl (lv_at hl 1 rfl) ?_
      refine lv_iconst (pc := 43) (v := (ii 1)) hx hb dX5_sumOf_43 (by decide) ?_
      refine lv_iadd (pc := 44) hx hb dX5_sumOf_44 ?_
      refine x_iald (pc := 45) X V htj5 hij5 hjj5 dX5_sumOf_45 ?_
      replace hf := b2s hf; obtain ⟨I8, L9, hk_10, hf⟩ := hf
      refine x_callV0 (pc := 46) (As := [.int (I7 a3 j4), .int (I7 a3 j5)]) (rest := []) X V (mX5_reckonAll l D dA s0 hk_10) okX5 ht1 q1771 q1773 qs54 q129 q1774 ⟨rfl, hsX5_reckonAll⟩ ⟨Nat.le_of_ble_eq_true rfl, Nat.le_of_ble_eq_true rfl⟩ rfl hl.1 rfl (Nat.le_of_ble_eq_true rfl) dX5_sumOf_46 ⟨Nat.zero_le _, Nat.zero_le _⟩ (fun H locs V => W.eq (g2 := F0 m 49 ls []) rfl ?_)
      refine lv_aload_n (pc := 49) hx hb dX5_sumOf_49 rfl (lv_at hl 0 rfl) ?_
      refine lv_iconst (pc := 50) (v := (ii 0)) hx hb dX5_sumOf_50 (by decide) ?_
      replace hf := nm_s hf; obtain ⟨I11, hI11, hf⟩ := hf
      refine x_puti (pc := 51) X V okX5 (by decide) ht1 20 (by decide) q1541 (Or.inl rfl) hI11 (fun _ _ _ => rfl) (by decide) (by decide) dX5_sumOf_51 (fun H locs V => ?_)
      refine lv_aload_n (pc := 54) hx hb dX5_sumOf_54 rfl (lv_at hl 0 rfl) ?_
      refine lv_aload_n (pc := 55) hx hb dX5_sumOf_55 rfl (lv_at hl 0 rfl) ?_
      refine x_get (pc := 56) X V okX5 ht1 38 (by decide) q1559 (v := .int (I11 x0 38)) rfl dX5_sumOf_56 ?_
      replace hf := chk_s hf; obtain ⟨hz12, hf⟩ := hf
      replace hf := nm_s hf; obtain ⟨I13, hI13, hf⟩ := hf
      refine x_puti (pc := 59) X V okX5 (by decide) ht1 53 (by decide) q1574 (Or.inl rfl) hI13 (fun _ _ _ => rfl) (zb_n hz12) (zb_f hz12) dX5_sumOf_59 (fun H locs V => ?_)
      refine lv_aload_n (pc := 62) hx hb dX5_sumOf_62 rfl (lv_at hl 0 rfl) ?_
      refine x_get (pc := 63) X V okX5 ht1 39 (by decide) q1560 (v := .long (L9 x0 39)) rfl dX5_sumOf_63 ?_
      refine lv_l2i (pc := 66) hx hb dX5_sumOf_66 rfl ?_
      cases hf
      exact x_iret (pc := 67) X V hr dX5_sumOf_67
    · replace hf := if_t hf c6
      refine lv_iconst (pc := 24) (v := (-1 : Int32)) hx hb dX5_sumOf_24 (by decide) ?_
      cases hf
      exact x_iret (pc := 25) X V hr dX5_sumOf_25
theorem mX5_sumOf {nf : Nat} (l : Launch) (D : va_G) (dA : Nat → ClassId) (s0 : Nat) {T : xT} {N : xT} {Z : Nat} {I : xI} {L : xL} {R : xR} {x0 : Nat} {x1 : Int32} {ro : Int32} {Io : xI} {Lo : xL} (hf : fX5_sumOf nf T N I L R x0 x1 = some (ro, Io, Lo)) : XMet l D dA s0 yX5_sumOf (ws_ yX5_sumOf cX5_sumOf 2 ((some .int))) (3) (72) [.ref x0, .int x1] T N Z I L R (some (.int ro)) T N Z Io Lo R 0 0 :=
  x_start (own := RX5) rfl (by decide) (Nat.le_of_ble_eq_true rfl) (lv := [(0, .ref x0), (1, .int x1)]) rfl (fun p e s m below meth c ls X hr hini V hl => wX5_sumOf_e X hr hf V hl)
set_option maxHeartbeats 400000 in
set_option maxRecDepth 100000 in
theorem wX5_act_e {nf : Nat} {p : Program} {l : Launch} {e : Env} {s : State} {m : MethodId} {args : Array Value} {below : List Frame} {meth : Method} {c : Code} {D : va_G} {dA : Nat → ClassId} {s0 : Nat} {T : xT} {N : xT} {Z : Nat} {I : xI} {L : xL} {R : xR} {H : Heap} {locs : List Loc} {ls : Array Slot} {x0 : Nat} {x1 : Int32} {x2 : Int32} {x3 : Int32} {ro : Int32} {Io : xI} {Lo : xL} (X : Cx D dA s0 p m c cX5_act 4 s args RX5 meth) (hr : meth.sig.returnType = (some .int)) (hf : fX5_act nf T N I L R x0 x1 x2 x3 = some (ro, Io, Lo)) (V : Iv D dA s0 s T N Z I L R H locs) (hl : lv_has ls 4 [(0, .ref x0), (1, .int x1), (2, .int x2), (3, .int x3)]) : W p l e { frames := 10, cells := 0, slots := 0, locals := 233 } s m args below meth c H locs 0 0 (MQ below (xQ D dA s0 (some (.int ro)) T N Z Io Lo R) args s 0 0 (fun q => s0 ≤ q)) (F0 m 0 ls []) := by
  have hx := X.1.1
  have hb := X.1.2.1
  unfold fX5_act at hf
  refine lv_iload_n (pc := 0) hx hb dX5_act_0 rfl (lv_at hl 1 rfl) ?_
  by_cases c1 : x1 = (ii 0)
  · replace hf := if_t hf c1
    refine x_tswIn (pc := 1) (tgt := 28) (off := 27) hx hb c1 dX5_act_1 (by decide) (by decide) (by decide) (by decide) ?_
    refine lv_aload_n (pc := 28) hx hb dX5_act_28 rfl (lv_at hl 0 rfl) ?_
    refine lv_iload_n (pc := 29) hx hb dX5_act_29 rfl (lv_at hl 2 rfl) ?_
    replace hf := tg_s hf; obtain ⟨ht6, hf⟩ := hf
    replace hf := b3s hf; obtain ⟨r2, I3, L4, hk_5, hf⟩ := hf
    refine x_callV0 (pc := 30) (As := [.int x2]) (rest := []) X V (mX5_wanderNow l D dA s0 hk_5) okX5 ht6 q1973 q1975 qs87 q129 q1976 ⟨rfl, hsX5_wanderNow⟩ ⟨Nat.le_of_ble_eq_true rfl, Nat.le_of_ble_eq_true rfl⟩ rfl hl.1 rfl (Nat.le_of_ble_eq_true rfl) dX5_act_30 ⟨Nat.zero_le _, Nat.zero_le _⟩ (fun H locs V => W.eq (g2 := F0 m 33 ls [.int r2]) rfl ?_)
    cases hf
    exact x_iret (pc := 33) X V hr dX5_act_33
  replace hf := if_f hf c1
  by_cases c7 : x1 = (ii 1)
  · replace hf := if_t hf c7
    refine x_tswIn (pc := 1) (tgt := 34) (off := 33) hx hb c7 dX5_act_1 (by decide) (by decide) (by decide) (by decide) ?_
    refine lv_aload_n (pc := 34) hx hb dX5_act_34 rfl (lv_at hl 0 rfl) ?_
    refine lv_iload_n (pc := 35) hx hb dX5_act_35 rfl (lv_at hl 2 rfl) ?_
    replace hf := tg_s hf; obtain ⟨ht12, hf⟩ := hf
    replace hf := b3s hf; obtain ⟨r8, I9, L10, hk_11, hf⟩ := hf
    refine x_callV0 (pc := 36) (As := [.int x2]) (rest := []) X V (mX5_cryNow l D dA s0 hk_11) okX5 ht12 q1997 q1999 qs92 q129 q2000 ⟨rfl, hsX5_cryNow⟩ ⟨Nat.le_of_ble_eq_true rfl, Nat.le_of_ble_eq_true rfl⟩ rfl hl.1 rfl (Nat.le_of_ble_eq_true rfl) dX5_act_36 ⟨Nat.zero_le _, Nat.zero_le _⟩ (fun H locs V => W.eq (g2 := F0 m 39 ls [.int r8]) rfl ?_)
    cases hf
    exact x_iret (pc := 39) X V hr dX5_act_39
  replace hf := if_f hf c7
  by_cases c13 : x1 = (ii 2)
  · replace hf := if_t hf c13
    refine x_tswIn (pc := 1) (tgt := 40) (off := 39) hx hb c13 dX5_act_1 (by decide) (by decide) (by decide) (by decide) ?_
    refine lv_aload_n (pc := 40) hx hb dX5_act_40 rfl (lv_at hl 0 rfl) ?_
    refine lv_iload_n (pc := 41) hx hb dX5_act_41 rfl (lv_at hl 2 rfl) ?_
    refine lv_iload_n (pc := 42) hx hb dX5_act_42 rfl (lv_at hl 3 rfl) ?_
    replace hf := tg_s hf; obtain ⟨ht17, hf⟩ := hf
    replace hf := b2s hf; obtain ⟨r14, I15, hk_16, hf⟩ := hf
    refine x_callV0 (pc := 43) (As := [.int x2, .int x3]) (rest := []) X V (mX5_leadNow l D dA s0 hk_16) okX5 ht17 q2009 q2011 qs94 q129 q2012 ⟨rfl, hsX5_leadNow⟩ ⟨Nat.le_of_ble_eq_true rfl, Nat.le_of_ble_eq_true rfl⟩ rfl hl.1 rfl (Nat.le_of_ble_eq_true rfl) dX5_act_43 ⟨Nat.zero_le _, Nat.zero_le _⟩ (fun H locs V => W.eq (g2 := F0 m 46 ls [.int r14]) rfl ?_)
    cases hf
    exact x_iret (pc := 46) X V hr dX5_act_46
  replace hf := if_f hf c13
  refine lv_tableOut (pc := 1) (tgt := 47) hx hb dX5_act_1 (by have qc1 := lv_neT c1 (a := 0) (by decide); have qc7 := lv_neT c7 (a := 1) (by decide); have qc13 := lv_neT c13 (a := 2) (by decide); omega) (by decide) ?_
  refine lv_aload_n (pc := 47) hx hb dX5_act_47 rfl (lv_at hl 0 rfl) ?_
  replace hf := tg_s hf; obtain ⟨ht22, hf⟩ := hf
  replace hf := b3s hf; obtain ⟨r18, I19, L20, hk_21, hf⟩ := hf
  refine x_callV0 (pc := 48) (As := []) (rest := []) X V (mX5_passNow l D dA s0 hk_21) okX5 ht22 q2017 q2019 qs95 q129 q2020 ⟨rfl, hsX5_passNow⟩ ⟨Nat.le_of_ble_eq_true rfl, Nat.le_of_ble_eq_true rfl⟩ rfl hl.1 rfl (Nat.le_of_ble_eq_true rfl) dX5_act_48 ⟨Nat.zero_le _, Nat.zero_le _⟩ (fun H locs V => W.eq (g2 := F0 m 51 ls [.int r18]) rfl ?_)
  cases hf
  exact x_iret (pc := 51) X V hr dX5_act_51
theorem mX5_act {nf : Nat} (l : Launch) (D : va_G) (dA : Nat → ClassId) (s0 : Nat) {T : xT} {N : xT} {Z : Nat} {I : xI} {L : xL} {R : xR} {x0 : Nat} {x1 : Int32} {x2 : Int32} {x3 : Int32} {ro : Int32} {Io : xI} {Lo : xL} (hf : fX5_act nf T N I L R x0 x1 x2 x3 = some (ro, Io, Lo)) : XMet l D dA s0 yX5_act (ws_ yX5_act cX5_act 4 ((some .int))) (10) (233) [.ref x0, .int x1, .int x2, .int x3] T N Z I L R (some (.int ro)) T N Z Io Lo R 0 0 :=
  x_start (own := RX5) rfl (by decide) (Nat.le_of_ble_eq_true rfl) (lv := [(0, .ref x0), (1, .int x1), (2, .int x2), (3, .int x3)]) rfl (fun p e s m below meth c ls X hr hini V hl => wX5_act_e X hr hf V hl)
