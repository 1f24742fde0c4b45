set_option maxHeartbeats 400000 in
set_option maxRecDepth 100000 in
theorem wX5_run_b173 {nf : Nat} {p : Program} {l : Launch} {e : Env} {s : State} {m : MethodId} {args : Array Value} {below : List Frame} {meth : Method} {c : Code} {D : va_G} {dA : Nat → ClassId} {s0 : Nat} {T : xT} {N : xT} {Z : Nat} {I : xI} {L : xL} {R : xR} {H : Heap} {locs : List Loc} {ls : Array Slot}  {x0 : Nat} {z0 : Nat} {z1 : Int32} {ro : Int32} {Io : xI} {Lo : xL} (X : Cx D dA s0 p m c cX5_run 5 s args RX5 meth) (hr : meth.sig.returnType = (some .int))   (hf : fX5_run_b173 nf T N I L R x0 z0 z1 = some (ro, Io, Lo)) (V : Iv D dA s0 s T N Z I L R H locs) (hl : lv_has ls 5 [(0, .ref x0)]) : W p l e { frames := 11, cells := 0, slots := 0, locals := 256 } s m args below meth c H locs 0 0 (MQ below (xQ D dA s0 (some (.int ro)) T N Z Io Lo R) args s 0 0 (fun q => s0 ≤ q)) (F0 m 173 ls [.int z1, .ref z0]) := by
  have hx := X.1.1
  have hb := X.1.2.1
  unfold fX5_run_b173 at hf
  replace hf := tg_s hf; obtain ⟨ht1, hf⟩ := hf
  replace hf := nm_s hf; obtain ⟨I2, hI2, hf⟩ := hf
  refine x_puti (pc := 173) X V okX5 (by decide) ht1 51 (by decide) q1572 (Or.inl rfl) hI2 (fun _ _ _ => rfl) rfl rfl dX5_run_173 (fun H locs V => ?_)
  refine lv_aload_n (pc := 176) hx hb dX5_run_176 rfl (lv_at hl 0 rfl) ?_
  refine lv_dup (pc := 177) hx hb dX5_run_177 rfl ?_
  replace hf := tg_s hf; obtain ⟨ht3, hf⟩ := hf
  refine x_get (pc := 178) X V okX5 ht3 50 (by decide) q1571 (v := .int (I2 x0 50)) rfl dX5_run_178 ?_
  refine lv_iconst (pc := 181) (v := (ii 1)) hx hb dX5_run_181 (by decide) ?_
  refine lv_iadd (pc := 182) hx hb dX5_run_182 ?_
  replace hf := nm_s hf; obtain ⟨I4, hI4, hf⟩ := hf
  refine x_puti (pc := 183) X V okX5 (by decide) ht3 50 (by decide) q1571 (Or.inl rfl) hI4 (fun _ _ _ => rfl) rfl rfl dX5_run_183 (fun H locs V => ?_)
  refine lv_iconst (pc := 186) (v := (ii 0)) hx hb dX5_run_186 (by decide) ?_
  cases hf
  exact x_iret (pc := 187) X V hr dX5_run_187
set_option maxHeartbeats 400000 in
set_option maxRecDepth 100000 in
theorem wX5_run_b105 {nf : Nat} {p : Program} {l : Launch} {e : Env} {s : State} {m : MethodId} {args : Array Value} {below : List Frame} {meth : Method} {c : Code} {D : va_G} {dA : Nat → ClassId} {s0 : Nat} {T : xT} {N : xT} {Z : Nat} {I : xI} {L : xL} {R : xR} {H : Heap} {locs : List Loc} {ls : Array Slot}  {x0 : Nat} {x1 : Int32} {ro : Int32} {Io : xI} {Lo : xL} (X : Cx D dA s0 p m c cX5_run 5 s args RX5 meth) (hr : meth.sig.returnType = (some .int))   (hf : fX5_run_b105 nf T N I L R x0 x1 = some (ro, Io, Lo)) (V : Iv D dA s0 s T N Z I L R H locs) (hl : lv_has ls 5 [(0, .ref x0), (1, .int x1)]) : W p l e { frames := 11, cells := 0, slots := 0, locals := 256 } s m args below meth c H locs 0 0 (MQ below (xQ D dA s0 (some (.int ro)) T N Z Io Lo R) args s 0 0 (fun q => s0 ≤ q)) (F0 m 105 ls []) := by
  have hx := X.1.1
  have hb := X.1.2.1
  unfold fX5_run_b105 at hf
  refine lv_aload_n (pc := 105) hx hb dX5_run_105 rfl (lv_at hl 0 rfl) ?_
  refine lv_iload_n (pc := 106) hx hb dX5_run_106 rfl (lv_at hl 1 rfl) ?_
  refine lv_iconst (pc := 107) (v := (ii 1)) hx hb dX5_run_107 (by decide) ?_
  refine lv_iadd (pc := 108) hx hb dX5_run_108 ?_
  replace hf := tg_s hf; obtain ⟨ht5, hf⟩ := hf
  replace hf := b3s hf; obtain ⟨r1, I2, L3, hk_4, hf⟩ := hf
  refine x_callV0 (pc := 109) (As := [.int (x1 + (ii 1))]) (rest := []) X V (mX5_sumOf l D dA s0 hk_4) okX5 ht5 q2180 q2182 qs114 q129 q2183 ⟨rfl, hsX5_sumOf⟩ ⟨Nat.le_of_ble_eq_true rfl, Nat.le_of_ble_eq_true rfl⟩ rfl hl.1 rfl (Nat.le_of_ble_eq_true rfl) dX5_run_109 ⟨Nat.zero_le _, Nat.zero_le _⟩ (fun H locs V => W.eq (g2 := F0 m 112 ls [.int r1]) rfl ?_)
  refine lv_istore_n (pc := 112) (lv' := [(2, .int r1), (0, .ref x0), (1, .int x1)]) hx hb dX5_run_112 rfl hl (by decide) rfl (fun ls hl => ?_)
  refine lv_aload_n (pc := 113) hx hb dX5_run_113 rfl (lv_at hl 1 rfl) ?_
  refine lv_iload_n (pc := 114) hx hb dX5_run_114 rfl (lv_at hl 2 rfl) ?_
  refine lv_iconst (pc := 115) (v := (ii 3)) hx hb dX5_run_115 (by decide) ?_
  refine lv_iadd (pc := 116) hx hb dX5_run_116 ?_
  replace hf := b3s hf; obtain ⟨r6, I7, L8, hk_9, hf⟩ := hf
  refine x_callV0 (pc := 117) (As := [.int (x1 + (ii 3))]) (rest := []) X V (mX5_sumOf l D dA s0 hk_9) okX5 ht5 q2180 q2182 qs114 q129 q2183 ⟨rfl, hsX5_sumOf⟩ ⟨Nat.le_of_ble_eq_true rfl, Nat.le_of_ble_eq_true rfl⟩ rfl hl.1 rfl (Nat.le_of_ble_eq_true rfl) dX5_run_117 ⟨Nat.zero_le _, Nat.zero_le _⟩ (fun H locs V => W.eq (g2 := F0 m 120 ls [.int r6]) rfl ?_)
  refine lv_istore_n (pc := 120) (lv' := [(3, .int r6), (2, .int r1), (0, .ref x0), (1, .int x1)]) hx hb dX5_run_120 rfl hl (by decide) rfl (fun ls hl => ?_)
  refine lv_aload_n (pc := 121) hx hb dX5_run_121 rfl (lv_at hl 2 rfl) ?_
  refine x_get (pc := 122) X V okX5 ht5 53 (by decide) q1574 (v := .int (I7 x0 53)) rfl dX5_run_122 ?_
  refine lv_if_eq (pc := 125) (tgt := 131) hx hb dX5_run_125 (by decide) (fun c10 => ?_) (fun c10 => ?_)
  · replace hf := if_t hf c10
    refine lv_aload_n (pc := 131) hx hb dX5_run_131 rfl (lv_at hl 2 rfl) ?_
    refine lv_aload_n (pc := 132) hx hb dX5_run_132 rfl (lv_at hl 2 rfl) ?_
    replace hf := bs hf; obtain ⟨a11, ha11, hf⟩ := hf
    refine x_get (pc := 133) X V okX5 ht5 49 (by decide) q1570 (v := va_rf (R x0 49)) rfl dX5_run_133 ?_
    refine x_topr ha11 ?_
    refine lv_iload_n (pc := 136) hx hb dX5_run_136 rfl (lv_at hl 3 rfl) ?_
    replace hf := rA_s hf; obtain ⟨j12, hjj12, htj12, hij12, hf⟩ := hf
    refine x_iald (pc := 137) X V htj12 hij12 hjj12 dX5_run_137 ?_
    refine lv_iload_n (pc := 138) hx hb dX5_run_138 rfl (lv_at hl 1 rfl) ?_
    refine lv_iload_n (pc := 139) hx hb dX5_run_139 rfl (lv_at hl 0 rfl) ?_
    replace hf := b3s hf; obtain ⟨r13, I14, L15, hk_16, hf⟩ := hf
    refine x_callV0 (pc := 140) (As := [.int (I7 a11 j12), .int r1, .int r6]) (rest := []) X V (mX5_act l D dA s0 hk_16) okX5 ht5 q2184 q2186 qs115 q129 q2187 ⟨rfl, hsX5_act⟩ ⟨Nat.le_of_ble_eq_true rfl, Nat.le_of_ble_eq_true rfl⟩ rfl hl.1 rfl (Nat.le_of_ble_eq_true rfl) dX5_run_140 ⟨Nat.zero_le _, Nat.zero_le _⟩ (fun H locs V => W.eq (g2 := F0 m 143 ls [.int r13]) rfl ?_)
    refine lv_istore (pc := 143) (lv' := [(4, .int r13), (3, .int r6), (2, .int r1), (0, .ref x0), (1, .int x1)]) hx hb dX5_run_143 hl (by decide) rfl (fun ls hl => ?_)
    refine lv_iload (pc := 145) hx hb dX5_run_145 (lv_at hl 0 rfl) ?_
    refine lv_if_ge (pc := 147) (tgt := 153) hx hb dX5_run_147 (by decide) (fun c17 => ?_) (fun c17 => ?_)
    · replace hf := if_t hf c17
      refine lv_aload_n (pc := 153) hx hb dX5_run_153 rfl (lv_at hl 3 rfl) ?_
      refine lv_aload_n (pc := 154) hx hb dX5_run_154 rfl (lv_at hl 3 rfl) ?_
      refine x_get (pc := 155) X V okX5 ht5 49 (by decide) q1570 (v := va_rf (R x0 49)) rfl dX5_run_155 ?_
      refine x_topr ha11 ?_
      refine lv_iload_n (pc := 158) hx hb dX5_run_158 rfl (lv_at hl 4 rfl) ?_
      refine x_iald (pc := 159) X V htj12 hij12 hjj12 dX5_run_159 ?_
      refine lv_iconst (pc := 160) (v := (ii 1)) hx hb dX5_run_160 (by decide) ?_
      refine lv_icmp_ne (pc := 161) (tgt := 169) hx hb dX5_run_161 (by decide) (fun c18 => ?_) (fun c18 => ?_)
      · replace hf := if_f hf c18
        refine lv_aload_n (pc := 169) hx hb dX5_run_169 rfl (lv_at hl 3 rfl) ?_
        refine x_get (pc := 170) X V okX5 ht5 51 (by decide) q1572 (v := .int (I14 x0 51)) rfl dX5_run_170 ?_
        exact wX5_run_b173 X hr hf V (lv_sub hl [3] rfl)
      · replace hf := if_t hf c18
        refine lv_iload (pc := 164) hx hb dX5_run_164 (lv_at hl 0 rfl) ?_
        refine lv_goto (pc := 166) (tgt := 173) hx hb dX5_run_166 (by decide) ?_
        exact wX5_run_b173 X hr hf V (lv_sub hl [3] rfl)
    · replace hf := if_f hf c17
      refine lv_bipush (pc := 150) (v := (-3 : Int32)) hx hb dX5_run_150 (by decide) ?_
      cases hf
      exact x_iret (pc := 152) X V hr dX5_run_152
  · replace hf := if_f hf c10
    refine lv_bipush (pc := 128) (v := (-3 : Int32)) hx hb dX5_run_128 (by decide) ?_
    cases hf
    exact x_iret (pc := 130) X V hr dX5_run_130
set_option maxHeartbeats 400000 in
set_option maxRecDepth 100000 in
theorem wX5_run_e {nf : Nat} {p : Program} {l : Launch} {e : Env} {s : State} {m : MethodId} {args : Array Value} {below : List Frame} {meth : Method} {c : Code} {D : va_G} {dA : Nat → ClassId} {s0 : Nat} {T : xT} {N : xT} {Z : Nat} {I : xI} {L : xL} {R : xR} {H : Heap} {locs : List Loc} {ls : Array Slot} {x0 : Nat} {x1 : Int32} {ro : Int32} {Io : xI} {Lo : xL} (X : Cx D dA s0 p m c cX5_run 5 s args RX5 meth) (hr : meth.sig.returnType = (some .int)) (hf : fX5_run nf T N I L R x0 x1 = some (ro, Io, Lo)) (V : Iv D dA s0 s T N Z I L R H locs) (hl : lv_has ls 5 [(0, .ref x0), (1, .int x1)]) : W p l e { frames := 11, cells := 0, slots := 0, locals := 256 } s m args below meth c H locs 0 0 (MQ below (xQ D dA s0 (some (.int ro)) T N Z Io Lo R) args s 0 0 (fun q => s0 ≤ q)) (F0 m 0 ls []) := by
  have hx := X.1.1
  have hb := X.1.2.1
  unfold fX5_run at hf
  refine lv_aload_n (pc := 0) hx hb dX5_run_0 rfl (lv_at hl 0 rfl) ?_
  replace hf := tg_s hf; obtain ⟨ht1, hf⟩ := hf
  replace hf := bs hf; obtain ⟨a2, ha2, hf⟩ := hf
  refine x_get (pc := 1) X V okX5 ht1 36 (by decide) q1557 (v := va_rf (R x0 36)) rfl dX5_run_1 ?_
  refine x_topr ha2 ?_
  refine lv_iconst (pc := 4) (v := (ii 1)) hx hb dX5_run_4 (by decide) ?_
  refine lv_aload_n (pc := 5) hx hb dX5_run_5 rfl (lv_at hl 0 rfl) ?_
  replace hf := bs hf; obtain ⟨a3, ha3, hf⟩ := hf
  refine x_get (pc := 6) X V okX5 ht1 3 (by decide) q1524 (v := va_rf (R x0 3)) rfl dX5_run_6 ?_
  refine x_topr ha3 ?_
  refine lv_iconst (pc := 9) (v := (ii 5)) hx hb dX5_run_9 (by decide) ?_
  replace hf := rA_s hf; obtain ⟨j4, hjj4, htj4, hij4, hf⟩ := hf
  refine x_iald (pc := 10) X V htj4 hij4 hjj4 dX5_run_10 ?_
  refine lv_i2l (pc := 11) hx hb dX5_run_11 rfl ?_
  replace hf := rA_s hf; obtain ⟨j5, hjj5, htj5, hij5, hf⟩ := hf
  replace hf := nm_s hf; obtain ⟨L6, hL6, hf⟩ := hf
  refine x_last (pc := 12) X V htj5 hij5 hjj5 hL6 dX5_run_12 (fun H locs V => ?_)
  refine lv_aload_n (pc := 13) hx hb dX5_run_13 rfl (lv_at hl 0 rfl) ?_
  refine x_get (pc := 14) X V okX5 ht1 36 (by decide) q1557 (v := va_rf (R x0 36)) rfl dX5_run_14 ?_
  refine x_topr ha2 ?_
  refine lv_iconst (pc := 17) (v := (ii 2)) hx hb dX5_run_17 (by decide) ?_
  refine lv_aload_n (pc := 18) hx hb dX5_run_18 rfl (lv_at hl 0 rfl) ?_
  refine x_get (pc := 19) X V okX5 ht1 50 (by decide) q1571 (v := .int (I x0 50)) rfl dX5_run_19 ?_
  refine lv_i2l (pc := 22) hx hb dX5_run_22 rfl ?_
  replace hf := rA_s hf; obtain ⟨j7, hjj7, htj7, hij7, hf⟩ := hf
  replace hf := nm_s hf; obtain ⟨L8, hL8, hf⟩ := hf
  refine x_last (pc := 23) X V htj7 hij7 hjj7 hL8 dX5_run_23 (fun H locs V => ?_)
  refine lv_aload_n (pc := 24) hx hb dX5_run_24 rfl (lv_at hl 0 rfl) ?_
  refine x_get (pc := 25) X V okX5 ht1 36 (by decide) q1557 (v := va_rf (R x0 36)) rfl dX5_run_25 ?_
  refine x_topr ha2 ?_
  refine lv_iconst (pc := 28) (v := (ii 3)) hx hb dX5_run_28 (by decide) ?_
  refine lv_aload_n (pc := 29) hx hb dX5_run_29 rfl (lv_at hl 0 rfl) ?_
  refine x_get (pc := 30) X V okX5 ht1 51 (by decide) q1572 (v := .int (I x0 51)) rfl dX5_run_30 ?_
  refine lv_i2l (pc := 33) hx hb dX5_run_33 rfl ?_
  replace hf := rA_s hf; obtain ⟨j9, hjj9, htj9, hij9, hf⟩ := hf
  replace hf := nm_s hf; obtain ⟨L10, hL10, hf⟩ := hf
  refine x_last (pc := 34) X V htj9 hij9 hjj9 hL10 dX5_run_34 (fun H locs V => ?_)
  refine lv_aload_n (pc := 35) hx hb dX5_run_35 rfl (lv_at hl 0 rfl) ?_
  refine x_get (pc := 36) X V okX5 ht1 36 (by decide) q1557 (v := va_rf (R x0 36)) rfl dX5_run_36 ?_
  refine x_topr ha2 ?_
  refine lv_iconst (pc := 39) (v := (ii 4)) hx hb dX5_run_39 (by decide) ?_
  refine lv_aload_n (pc := 40) hx hb dX5_run_40 rfl (lv_at hl 0 rfl) ?_
  replace hf := bs hf; obtain ⟨r11, hk_12, hf⟩ := hf
  refine x_callV0 (pc := 41) (As := []) (rest := [.int (ii 4), .ref a2]) X V (mX5_namedOnes l D dA s0 hk_12) okX5 ht1 q2176 q2178 qs113 q129 q2179 ⟨rfl, hsX5_namedOnes⟩ ⟨Nat.le_of_ble_eq_true rfl, Nat.le_of_ble_eq_true rfl⟩ rfl hl.1 rfl (Nat.le_of_ble_eq_true rfl) dX5_run_41 ⟨Nat.zero_le _, Nat.zero_le _⟩ (fun H locs V => W.eq (g2 := F0 m 44 ls [.int r11, .int (ii 4), .ref a2]) rfl ?_)
  refine lv_i2l (pc := 44) hx hb dX5_run_44 rfl ?_
  replace hf := rA_s hf; obtain ⟨j13, hjj13, htj13, hij13, hf⟩ := hf
  replace hf := nm_s hf; obtain ⟨L14, hL14, hf⟩ := hf
  refine x_last (pc := 45) X V htj13 hij13 hjj13 hL14 dX5_run_45 (fun H locs V => ?_)
  refine lv_aload_n (pc := 46) hx hb dX5_run_46 rfl (lv_at hl 0 rfl) ?_
  refine x_get (pc := 47) X V okX5 ht1 36 (by decide) q1557 (v := va_rf (R x0 36)) rfl dX5_run_47 ?_
  refine x_topr ha2 ?_
  refine lv_iconst (pc := 50) (v := (ii 5)) hx hb dX5_run_50 (by decide) ?_
  refine lv_aload_n (pc := 51) hx hb dX5_run_51 rfl (lv_at hl 0 rfl) ?_
  refine x_get (pc := 52) X V okX5 ht1 3 (by decide) q1524 (v := va_rf (R x0 3)) rfl dX5_run_52 ?_
  refine x_topr ha3 ?_
  refine lv_iconst (pc := 55) (v := (ii 1)) hx hb dX5_run_55 (by decide) ?_
  replace hf := rA_s hf; obtain ⟨j15, hjj15, htj15, hij15, hf⟩ := hf
  refine x_iald (pc := 56) X V htj15 hij15 hjj15 dX5_run_56 ?_
  refine lv_i2l (pc := 57) hx hb dX5_run_57 rfl ?_
  replace hf := rA_s hf; obtain ⟨j16, hjj16, htj16, hij16, hf⟩ := hf
  replace hf := nm_s hf; obtain ⟨L17, hL17, hf⟩ := hf
  refine x_last (pc := 58) X V htj16 hij16 hjj16 hL17 dX5_run_58 (fun H locs V => ?_)
  refine lv_aload_n (pc := 59) hx hb dX5_run_59 rfl (lv_at hl 0 rfl) ?_
  refine lv_iconst (pc := 60) (v := (ii 0)) hx hb dX5_run_60 (by decide) ?_
  replace hf := nm_s hf; obtain ⟨I18, hI18, hf⟩ := hf
  refine x_puti (pc := 61) X V okX5 (by decide) ht1 53 (by decide) q1574 (Or.inl rfl) hI18 (fun _ _ _ => rfl) (by decide) (by decide) dX5_run_61 (fun H locs V => ?_)
  refine lv_aload_n (pc := 64) hx hb dX5_run_64 rfl (lv_at hl 0 rfl) ?_
  replace hf := bs hf; obtain ⟨a19, ha19, hf⟩ := hf
  refine x_get (pc := 65) X V okX5 ht1 49 (by decide) q1570 (v := va_rf (R x0 49)) rfl dX5_run_65 ?_
  refine x_topr ha19 ?_
  refine lv_iload_n (pc := 68) hx hb dX5_run_68 rfl (lv_at hl 1 rfl) ?_
  refine lv_iconst (pc := 69) (v := (ii 5)) hx hb dX5_run_69 (by decide) ?_
  refine lv_iadd (pc := 70) hx hb dX5_run_70 ?_
  replace hf := rA_s hf; obtain ⟨j20, hjj20, htj20, hij20, hf⟩ := hf
  refine x_iald (pc := 71) X V htj20 hij20 hjj20 dX5_run_71 ?_
  refine lv_aload_n (pc := 72) hx hb dX5_run_72 rfl (lv_at hl 0 rfl) ?_
  refine x_get (pc := 73) X V okX5 ht1 49 (by decide) q1570 (v := va_rf (R x0 49)) rfl dX5_run_73 ?_
  refine x_topr ha19 ?_
  refine lv_iload_n (pc := 76) hx hb dX5_run_76 rfl (lv_at hl 1 rfl) ?_
  refine lv_bipush (pc := 77) (v := (ii 6)) hx hb dX5_run_77 (by decide) ?_
  refine lv_iadd (pc := 79) hx hb dX5_run_79 ?_
  replace hf := rA_s hf; obtain ⟨j21, hjj21, htj21, hij21, hf⟩ := hf
  refine x_iald (pc := 80) X V htj21 hij21 hjj21 dX5_run_80 ?_
  refine lv_icmp_ge (pc := 81) (tgt := 105) hx hb dX5_run_81 (by decide) (fun c22 => ?_) (fun c22 => ?_)
  · replace hf := if_t hf c22
    exact wX5_run_b105 X hr hf V (lv_sub hl [0, 1] rfl)
  · replace hf := if_f hf c22
    refine lv_aload_n (pc := 84) hx hb dX5_run_84 rfl (lv_at hl 0 rfl) ?_
    refine lv_iload_n (pc := 85) hx hb dX5_run_85 rfl (lv_at hl 1 rfl) ?_
    refine lv_iconst (pc := 86) (v := (ii 5)) hx hb dX5_run_86 (by decide) ?_
    refine lv_iadd (pc := 87) hx hb dX5_run_87 ?_
    replace hf := b3s hf; obtain ⟨r23, I24, L25, hk_26, hf⟩ := hf
    refine x_callV0 (pc := 88) (As := [.int (x1 + (ii 5))]) (rest := []) X V (mX5_sumOf l D dA s0 hk_26) okX5 ht1 q2180 q2182 qs114 q129 q2183 ⟨rfl, hsX5_sumOf⟩ ⟨Nat.le_of_ble_eq_true rfl, Nat.le_of_ble_eq_true rfl⟩ rfl hl.1 rfl (Nat.le_of_ble_eq_true rfl) dX5_run_88 ⟨Nat.zero_le _, Nat.zero_le _⟩ (fun H locs V => W.eq (g2 := F0 m 91 ls [.int r23]) rfl ?_)
    refine lv_istore_n (pc := 91) (lv' := [(2, .int r23), (0, .ref x0), (1, .int x1)]) hx hb dX5_run_91 rfl hl (by decide) rfl (fun ls hl => ?_)
    refine lv_aload_n (pc := 92) hx hb dX5_run_92 rfl (lv_at hl 1 rfl) ?_
    refine x_get (pc := 93) X V okX5 ht1 53 (by decide) q1574 (v := .int (I24 x0 53)) rfl dX5_run_93 ?_
    refine lv_if_ne (pc := 96) (tgt := 103) hx hb dX5_run_96 (by decide) (fun c27 => ?_) (fun c27 => ?_)
    · replace hf := if_f hf c27
      refine lv_iconst (pc := 103) (v := (ii 0)) hx hb dX5_run_103 (by decide) ?_
      cases hf
      exact x_iret (pc := 104) X V hr dX5_run_104
    · replace hf := if_t hf c27
      refine lv_iload_n (pc := 99) hx hb dX5_run_99 rfl (lv_at hl 0 rfl) ?_
      refine lv_if_ne (pc := 100) (tgt := 105) hx hb dX5_run_100 (by decide) (fun c28 => ?_) (fun c28 => ?_)
      · replace hf := if_f hf c28
        exact wX5_run_b105 X hr hf V (lv_sub hl [1, 2] rfl)
      · replace hf := if_t hf c28
        refine lv_iconst (pc := 103) (v := (ii 0)) hx hb dX5_run_103 (by decide) ?_
        cases hf
        exact x_iret (pc := 104) X V hr dX5_run_104
theorem mX5_run {nf : Nat} (l : Launch) (D : va_G) (dA : Nat → ClassId) (s0 : Nat) {T : xT} {N : xT} {Z : Nat} {I : xI} {L : xL} {R : xR} {x0 : Nat} {x1 : Int32} {ro : Int32} {Io : xI} {Lo : xL} (hf : fX5_run nf T N I L R x0 x1 = some (ro, Io, Lo)) : XMet l D dA s0 yX5_run (ws_ yX5_run cX5_run 5 ((some .int))) (11) (256) [.ref x0, .int x1] T N Z I L R (some (.int ro)) T N Z Io Lo R 0 0 :=
  x_start (own := RX5) rfl (by decide) (Nat.le_of_ble_eq_true rfl) (lv := [(0, .ref x0), (1, .int x1)]) rfl (fun p e s m below meth c ls X hr hini V hl => wX5_run_e X hr hf V hl)
set_option maxHeartbeats 400000 in
set_option maxRecDepth 100000 in
theorem wX5_giveBack_b35 {nf : Nat} {p : Program} {l : Launch} {e : Env} {s : State} {m : MethodId} {args : Array Value} {below : List Frame} {meth : Method} {c : Code} {D : va_G} {dA : Nat → ClassId} {s0 : Nat} {T : xT} {N : xT} {Z : Nat} {L : xL} {R : xR}  {Io : xI} (X : Cx D dA s0 p m c cX5_giveBack 3 s args RX5 meth) (hr : meth.sig.returnType = none)   (k : Nat) : ∀ {I : xI} {x0 : Nat} {x1 : Int32} {x2 : Int32} {H : Heap} {locs : List Loc} {ls : Array Slot} , fX5_giveBack_b35 nf T N R k I x0 x1 x2 = some Io → Iv D dA s0 s T N Z I L R H locs → lv_has ls 3 [(0, .ref x0), (1, .int x1), (2, .int x2)] → W p l e { frames := 1, cells := 0, slots := 0, locals := 22 } s m args below meth c H locs 0 0 (MQ below (xQ D dA s0 none T N Z Io L R) args s 0 0 (fun q => s0 ≤ q)) (F0 m 35 ls []) := by
  have hx := X.1.1
  have hb := X.1.2.1
  induction k with
  | zero =>
    intro I x0 x1 x2 H locs ls hf V hl
    exact absurd (show none = some _ from hf) (fun q => nomatch q)
  | succ k ih =>
    intro I x0 x1 x2 H locs ls hf V hl
    rw [fX5_giveBack_b35] at hf
    refine lv_iload_n (pc := 35) hx hb dX5_giveBack_35 rfl (lv_at hl 2 rfl) ?_
    refine lv_bipush (pc := 36) (v := (ii 16)) hx hb dX5_giveBack_36 (by decide) ?_
    refine lv_icmp_ge (pc := 38) (tgt := 59) hx hb dX5_giveBack_38 (by decide) (fun c1 => ?_) (fun c1 => ?_)
    · replace hf := if_t hf c1
      refine lv_aload_n (pc := 59) hx hb dX5_giveBack_59 rfl (lv_at hl 0 rfl) ?_
      refine lv_iload_n (pc := 60) hx hb dX5_giveBack_60 rfl (lv_at hl 1 rfl) ?_
      replace hf := tg_s hf; obtain ⟨ht2, hf⟩ := hf
      replace hf := nm_s hf; obtain ⟨I3, hI3, hf⟩ := hf
      refine x_puti (pc := 61) X V okX5 (by decide) ht2 8 (by decide) q1529 (Or.inl rfl) hI3 (fun _ _ _ => rfl) rfl rfl dX5_giveBack_61 (fun H locs V => ?_)
      cases hf
      exact x_vret (pc := 64) X V hr dX5_giveBack_64
    · replace hf := if_f hf c1
      refine lv_aload_n (pc := 41) hx hb dX5_giveBack_41 rfl (lv_at hl 0 rfl) ?_
      replace hf := tg_s hf; obtain ⟨ht4, hf⟩ := hf
      replace hf := bs hf; obtain ⟨a5, ha5, hf⟩ := hf
      refine x_get (pc := 42) X V okX5 ht4 7 (by decide) q1528 (v := va_rf (R x0 7)) rfl dX5_giveBack_42 ?_
      refine x_topr ha5 ?_
      refine lv_iload_n (pc := 45) hx hb dX5_giveBack_45 rfl (lv_at hl 2 rfl) ?_
      refine lv_aload_n (pc := 46) hx hb dX5_giveBack_46 rfl (lv_at hl 0 rfl) ?_
      replace hf := bs hf; obtain ⟨a6, ha6, hf⟩ := hf
      refine x_get (pc := 47) X V okX5 ht4 10 (by decide) q1531 (v := va_rf (R x0 10)) rfl dX5_giveBack_47 ?_
      refine x_topr ha6 ?_
      refine lv_iload_n (pc := 50) hx hb dX5_giveBack_50 rfl (lv_at hl 2 rfl) ?_
      replace hf := rA_s hf; obtain ⟨j7, hjj7, htj7, hij7, hf⟩ := hf
      refine x_iald (pc := 51) X V htj7 hij7 hjj7 dX5_giveBack_51 ?_
      replace hf := rA_s hf; obtain ⟨j8, hjj8, htj8, hij8, hf⟩ := hf
      replace hf := nm_s hf; obtain ⟨I9, hI9, hf⟩ := hf
      refine x_iast (pc := 52) X V htj8 hij8 hjj8 hI9 dX5_giveBack_52 (fun H locs V => ?_)
      replace hf := nm_s hf; obtain ⟨u10, hu10, hf⟩ := hf
      refine lv_iinc (pc := 53) (v := u10) (lv' := [(2, .int u10), (0, .ref x0), (1, .int x1)]) hx hb dX5_giveBack_53 hl (k := 2) rfl (by rw [hu10]; rfl) (by decide) rfl (fun ls hl => ?_)
      refine lv_goto (pc := 56) (tgt := 35) hx hb dX5_giveBack_56 (by decide) ?_
      exact ih hf V (lv_sub hl [1, 2, 0] rfl)
set_option maxHeartbeats 400000 in
set_option maxRecDepth 100000 in
theorem wX5_giveBack_b8 {nf : Nat} {p : Program} {l : Launch} {e : Env} {s : State} {m : MethodId} {args : Array Value} {below : List Frame} {meth : Method} {c : Code} {D : va_G} {dA : Nat → ClassId} {s0 : Nat} {T : xT} {N : xT} {Z : Nat} {L : xL} {R : xR}  {Io : xI} (X : Cx D dA s0 p m c cX5_giveBack 3 s args RX5 meth) (hr : meth.sig.returnType = none)   (k : Nat) : ∀ {I : xI} {x0 : Nat} {x1 : Int32} {x2 : Int32} {H : Heap} {locs : List Loc} {ls : Array Slot} , fX5_giveBack_b8 nf T N R k I x0 x1 x2 = some Io → Iv D dA s0 s T N Z I L R H locs → lv_has ls 3 [(0, .ref x0), (1, .int x1), (2, .int x2)] → W p l e { frames := 1, cells := 0, slots := 0, locals := 22 } s m args below meth c H locs 0 0 (MQ below (xQ D dA s0 none T N Z Io L R) args s 0 0 (fun q => s0 ≤ q)) (F0 m 8 ls []) := by
  have hx := X.1.1
  have hb := X.1.2.1
  induction k with
  | zero =>
    intro I x0 x1 x2 H locs ls hf V hl
    exact absurd (show none = some _ from hf) (fun q => nomatch q)
  | succ k ih =>
    intro I x0 x1 x2 H locs ls hf V hl
    rw [fX5_giveBack_b8] at hf
    refine lv_iload_n (pc := 8) hx hb dX5_giveBack_8 rfl (lv_at hl 2 rfl) ?_
    refine lv_sipush (pc := 9) (v := (ii 336)) hx hb dX5_giveBack_9 (by decide) ?_
    refine lv_icmp_ge (pc := 12) (tgt := 33) hx hb dX5_giveBack_12 (by decide) (fun c1 => ?_) (fun c1 => ?_)
    · replace hf := if_t hf c1
      refine lv_iconst (pc := 33) (v := (ii 0)) hx hb dX5_giveBack_33 (by decide) ?_
      refine lv_istore_n (pc := 34) (lv' := [(2, .int (ii 0)), (0, .ref x0), (1, .int x1)]) hx hb dX5_giveBack_34 rfl hl (by decide) rfl (fun ls hl => ?_)
      exact wX5_giveBack_b35 X hr nf hf V (lv_sub hl [1, 2, 0] rfl)
    · replace hf := if_f hf c1
      refine lv_aload_n (pc := 15) hx hb dX5_giveBack_15 rfl (lv_at hl 0 rfl) ?_
      replace hf := tg_s hf; obtain ⟨ht2, hf⟩ := hf
      replace hf := bs hf; obtain ⟨a3, ha3, hf⟩ := hf
      refine x_get (pc := 16) X V okX5 ht2 6 (by decide) q1527 (v := va_rf (R x0 6)) rfl dX5_giveBack_16 ?_
      refine x_topr ha3 ?_
      refine lv_iload_n (pc := 19) hx hb dX5_giveBack_19 rfl (lv_at hl 2 rfl) ?_
      refine lv_aload_n (pc := 20) hx hb dX5_giveBack_20 rfl (lv_at hl 0 rfl) ?_
      replace hf := bs hf; obtain ⟨a4, ha4, hf⟩ := hf
      refine x_get (pc := 21) X V okX5 ht2 9 (by decide) q1530 (v := va_rf (R x0 9)) rfl dX5_giveBack_21 ?_
      refine x_topr ha4 ?_
      refine lv_iload_n (pc := 24) hx hb dX5_giveBack_24 rfl (lv_at hl 2 rfl) ?_
      replace hf := rA_s hf; obtain ⟨j5, hjj5, htj5, hij5, hf⟩ := hf
      refine x_iald (pc := 25) X V htj5 hij5 hjj5 dX5_giveBack_25 ?_
      replace hf := rA_s hf; obtain ⟨j6, hjj6, htj6, hij6, hf⟩ := hf
      replace hf := nm_s hf; obtain ⟨I7, hI7, hf⟩ := hf
      refine x_iast (pc := 26) X V htj6 hij6 hjj6 hI7 dX5_giveBack_26 (fun H locs V => ?_)
      replace hf := nm_s hf; obtain ⟨u8, hu8, hf⟩ := hf
      refine lv_iinc (pc := 27) (v := u8) (lv' := [(2, .int u8), (0, .ref x0), (1, .int x1)]) hx hb dX5_giveBack_27 hl (k := 2) rfl (by rw [hu8]; rfl) (by decide) rfl (fun ls hl => ?_)
      refine lv_goto (pc := 30) (tgt := 8) hx hb dX5_giveBack_30 (by decide) ?_
      exact ih hf V (lv_sub hl [1, 2, 0] rfl)
set_option maxHeartbeats 400000 in
set_option maxRecDepth 100000 in
theorem wX5_giveBack_e {nf : Nat} {p : Program} {l : Launch} {e : Env} {s : State} {m : MethodId} {args : Array Value} {below : List Frame} {meth : Method} {c : Code} {D : va_G} {dA : Nat → ClassId} {s0 : Nat} {T : xT} {N : xT} {Z : Nat} {I : xI} {L : xL} {R : xR} {H : Heap} {locs : List Loc} {ls : Array Slot} {x0 : Nat} {x1 : Int32} {Io : xI} (X : Cx D dA s0 p m c cX5_giveBack 3 s args RX5 meth) (hr : meth.sig.returnType = none) (hf : fX5_giveBack nf T N I R x0 x1 = some Io) (V : Iv D dA s0 s T N Z I L R H locs) (hl : lv_has ls 3 [(0, .ref x0), (1, .int x1)]) : W p l e { frames := 1, cells := 0, slots := 0, locals := 22 } s m args below meth c H locs 0 0 (MQ below (xQ D dA s0 none T N Z Io L R) args s 0 0 (fun q => s0 ≤ q)) (F0 m 0 ls []) := by
  have hx := X.1.1
  have hb := X.1.2.1
  unfold fX5_giveBack at hf
  refine lv_aload_n (pc := 0) hx hb dX5_giveBack_0 rfl (lv_at hl 0 rfl) ?_
  refine lv_bipush (pc := 1) (v := (ii 17)) hx hb dX5_giveBack_1 (by decide) ?_
  replace hf := tg_s hf; obtain ⟨ht3, hf⟩ := hf
  replace hf := bs hf; obtain ⟨I1, hk_2, hf⟩ := hf
  refine x_callV0 (pc := 3) (As := [.int (ii 17)]) (rest := []) X V (mX5_putBack l D dA s0 hk_2) okX5 ht3 q1705 q1707 qs46 q129 q1708 ⟨rfl, hsX5_putBack⟩ ⟨Nat.le_of_ble_eq_true rfl, Nat.le_of_ble_eq_true rfl⟩ rfl hl.1 rfl (Nat.le_of_ble_eq_true rfl) dX5_giveBack_3 ⟨Nat.zero_le _, Nat.zero_le _⟩ (fun H locs V => W.eq (g2 := F0 m 6 ls []) rfl ?_)
  refine lv_iconst (pc := 6) (v := (ii 0)) hx hb dX5_giveBack_6 (by decide) ?_
  refine lv_istore_n (pc := 7) (lv' := [(2, .int (ii 0)), (0, .ref x0), (1, .int x1)]) hx hb dX5_giveBack_7 rfl hl (by decide) rfl (fun ls hl => ?_)
  exact wX5_giveBack_b8 X hr nf hf V (lv_sub hl [1, 2, 0] rfl)
theorem mX5_giveBack {nf : Nat} (l : Launch) (D : va_G) (dA : Nat → ClassId) (s0 : Nat) {T : xT} {N : xT} {Z : Nat} {I : xI} {L : xL} {R : xR} {x0 : Nat} {x1 : Int32} {Io : xI} (hf : fX5_giveBack nf T N I R x0 x1 = some Io) : XMet l D dA s0 yX5_giveBack (ws_ yX5_giveBack cX5_giveBack 3 (none)) (1) (22) [.ref x0, .int x1] T N Z I L R none T N Z Io L R 0 0 :=
  x_start (own := RX5) rfl (by decide) (Nat.le_of_ble_eq_true rfl) (lv := [(0, .ref x0), (1, .int x1)]) rfl (fun p e s m below meth c ls X hr hini V hl => wX5_giveBack_e X hr hf V hl)
set_option maxHeartbeats 400000 in
set_option maxRecDepth 100000 in
theorem wX5_orders_b150 {nf : Nat} {p : Program} {l : Launch} {e : Env} {s : State} {m : MethodId} {args : Array Value} {below : List Frame} {meth : Method} {c : Code} {D : va_G} {dA : Nat → ClassId} {s0 : Nat} {T : xT} {N : xT} {Z : Nat} {R : xR} {kk140 : xI → xL → Nat → Int32 → Int32 → Option (Int32 × xI × xL)} {ro : Int32} {Io : xI} {Lo : xL} (X : Cx D dA s0 p m c cX5_orders 4 s args RX5 meth) (hr : meth.sig.returnType = (some .int)) (hk140 : ∀ {I : xI} {L : xL} {x0 : Nat} {x1 : Int32} {x2 : Int32} {H : Heap} {locs : List Loc} {ls : Array Slot} , kk140 I L x0 x1 x2 = some (ro, Io, Lo) → Iv D dA s0 s T N Z I L R H locs → lv_has ls 4 [(0, .ref x0), (1, .int x1), (2, .int x2)] → W p l e { frames := 12, cells := 0, slots := 0, locals := 280 } s m args below meth c H locs 0 0 (MQ below (xQ D dA s0 (some (.int ro)) T N Z Io Lo R) args s 0 0 (fun q => s0 ≤ q)) (F0 m 140 ls []))  (k : Nat) : ∀ {I : xI} {L : xL} {x0 : Nat} {x1 : Int32} {x2 : Int32} {x3 : Int32} {H : Heap} {locs : List Loc} {ls : Array Slot} , fX5_orders_b150 nf kk140 T N R k I L x0 x1 x2 x3 = some (ro, Io, Lo) → Iv D dA s0 s T N Z I L R H locs → lv_has ls 4 [(0, .ref x0), (1, .int x1), (2, .int x2), (3, .int x3)] → W p l e { frames := 12, cells := 0, slots := 0, locals := 280 } s m args below meth c H locs 0 0 (MQ below (xQ D dA s0 (some (.int ro)) T N Z Io Lo R) args s 0 0 (fun q => s0 ≤ q)) (F0 m 150 ls []) := by
  have hx := X.1.1
  have hb := X.1.2.1
  induction k with
  | zero =>
    intro I L x0 x1 x2 x3 H locs ls hf V hl
    exact absurd (show none = some _ from hf) (fun q => nomatch q)
  | succ k ih =>
    intro I L x0 x1 x2 x3 H locs ls hf V hl
    rw [fX5_orders_b150] at hf
    refine lv_iload_n (pc := 150) hx hb dX5_orders_150 rfl (lv_at hl 3 rfl) ?_
    refine lv_aload_n (pc := 151) hx hb dX5_orders_151 rfl (lv_at hl 0 rfl) ?_
    replace hf := tg_s hf; obtain ⟨ht1, hf⟩ := hf
    replace hf := bs hf; obtain ⟨a2, ha2, hf⟩ := hf
    refine x_get (pc := 152) X V okX5 ht1 49 (by decide) q1570 (v := va_rf (R x0 49)) rfl dX5_orders_152 ?_
    refine x_topr ha2 ?_
    refine lv_bipush (pc := 155) (v := (ii 8)) hx hb dX5_orders_155 (by decide) ?_
    refine lv_iload_n (pc := 157) hx hb dX5_orders_157 rfl (lv_at hl 2 rfl) ?_
    refine lv_imul (pc := 158) hx hb dX5_orders_158 ?_
    refine lv_bipush (pc := 159) (v := (ii 7)) hx hb dX5_orders_159 (by decide) ?_
    refine lv_iadd (pc := 161) hx hb dX5_orders_161 ?_
    replace hf := rA_s hf; obtain ⟨j3, hjj3, htj3, hij3, hf⟩ := hf
    refine x_iald (pc := 162) X V htj3 hij3 hjj3 dX5_orders_162 ?_
    refine lv_icmp_ge (pc := 163) (tgt := 200) hx hb dX5_orders_163 (by decide) (fun c4 => ?_) (fun c4 => ?_)
    · replace hf := if_t hf c4
      replace hf := nm_s hf; obtain ⟨u5, hu5, hf⟩ := hf
      refine lv_iinc (pc := 200) (v := u5) (lv' := [(2, .int u5), (0, .ref x0), (1, .int x1), (3, .int x3)]) hx hb dX5_orders_200 hl (k := 2) rfl (by rw [hu5]; rfl) (by decide) rfl (fun ls hl => ?_)
      refine lv_goto (pc := 203) (tgt := 140) hx hb dX5_orders_203 (by decide) ?_
      exact hk140 hf V (lv_sub hl [1, 2, 0] rfl)
    · replace hf := if_f hf c4
      refine lv_aload_n (pc := 166) hx hb dX5_orders_166 rfl (lv_at hl 0 rfl) ?_
      refine lv_bipush (pc := 167) (v := (ii 8)) hx hb dX5_orders_167 (by decide) ?_
      refine lv_iload_n (pc := 169) hx hb dX5_orders_169 rfl (lv_at hl 2 rfl) ?_
      refine lv_imul (pc := 170) hx hb dX5_orders_170 ?_
      replace hf := b3s hf; obtain ⟨r6, I7, L8, hk_9, hf⟩ := hf
      refine x_callV0 (pc := 171) (As := [.int ((ii 8) * x2)]) (rest := []) X V (mX5_run l D dA s0 hk_9) okX5 ht1 q2172 q2174 qs112 q129 q2175 ⟨rfl, hsX5_run⟩ ⟨Nat.le_of_ble_eq_true rfl, Nat.le_of_ble_eq_true rfl⟩ rfl hl.1 rfl (Nat.le_of_ble_eq_true rfl) dX5_orders_171 ⟨Nat.zero_le _, Nat.zero_le _⟩ (fun H locs V => W.eq (g2 := F0 m 174 ls [.int r6]) rfl ?_)
      refine lv_if_ge (pc := 174) (tgt := 194) hx hb dX5_orders_174 (by decide) (fun c10 => ?_) (fun c10 => ?_)
      · replace hf := if_t hf c10
        replace hf := nm_s hf; obtain ⟨u11, hu11, hf⟩ := hf
        refine lv_iinc (pc := 194) (v := u11) (lv' := [(3, .int u11), (0, .ref x0), (1, .int x1), (2, .int x2)]) hx hb dX5_orders_194 hl (k := 3) rfl (by rw [hu11]; rfl) (by decide) rfl (fun ls hl => ?_)
        refine lv_goto (pc := 197) (tgt := 150) hx hb dX5_orders_197 (by decide) ?_
        exact ih hf V (lv_sub hl [1, 2, 3, 0] rfl)
      · replace hf := if_f hf c10
        refine lv_aload_n (pc := 177) hx hb dX5_orders_177 rfl (lv_at hl 0 rfl) ?_
        refine lv_iload_n (pc := 178) hx hb dX5_orders_178 rfl (lv_at hl 1 rfl) ?_
        replace hf := bs hf; obtain ⟨I12, hk_13, hf⟩ := hf
        refine x_callV0 (pc := 179) (As := [.int x1]) (rest := []) X V (mX5_giveBack l D dA s0 hk_13) okX5 ht1 q2188 q2190 qs116 q129 q2191 ⟨rfl, hsX5_giveBack⟩ ⟨Nat.le_of_ble_eq_true rfl, Nat.le_of_ble_eq_true rfl⟩ rfl hl.1 rfl (Nat.le_of_ble_eq_true rfl) dX5_orders_179 ⟨Nat.zero_le _, Nat.zero_le _⟩ (fun H locs V => W.eq (g2 := F0 m 182 ls []) rfl ?_)
        refine lv_aload_n (pc := 182) hx hb dX5_orders_182 rfl (lv_at hl 0 rfl) ?_
        refine lv_iload_n (pc := 183) hx hb dX5_orders_183 rfl (lv_at hl 2 rfl) ?_
        replace hf := nm_s hf; obtain ⟨I14, hI14, hf⟩ := hf
        refine x_puti (pc := 184) X V okX5 (by decide) ht1 52 (by decide) q1573 (Or.inl rfl) hI14 (fun _ _ _ => rfl) rfl rfl dX5_orders_184 (fun H locs V => ?_)
        refine lv_aload_n (pc := 187) hx hb dX5_orders_187 rfl (lv_at hl 0 rfl) ?_
        refine lv_bipush (pc := 188) (v := (-3 : Int32)) hx hb dX5_orders_188 (by decide) ?_
        replace hf := b2s hf; obtain ⟨r15, I16, hk_17, hf⟩ := hf
        refine x_callV0 (pc := 190) (As := [.int (-3 : Int32)]) (rest := []) X V (mX5_tell l D dA s0 hk_17) okX5 ht1 q1701 q1703 qs45 q129 q1704 ⟨rfl, hsX5_tell⟩ ⟨Nat.le_of_ble_eq_true rfl, Nat.le_of_ble_eq_true rfl⟩ rfl hl.1 rfl (Nat.le_of_ble_eq_true rfl) dX5_orders_190 ⟨Nat.zero_le _, Nat.zero_le _⟩ (fun H locs V => W.eq (g2 := F0 m 193 ls [.int r15]) rfl ?_)
        cases hf
        exact x_iret (pc := 193) X V hr dX5_orders_193
set_option maxHeartbeats 400000 in
set_option maxRecDepth 100000 in
theorem wX5_orders_b140 {nf : Nat} {p : Program} {l : Launch} {e : Env} {s : State} {m : MethodId} {args : Array Value} {below : List Frame} {meth : Method} {c : Code} {D : va_G} {dA : Nat → ClassId} {s0 : Nat} {T : xT} {N : xT} {Z : Nat} {R : xR}  {ro : Int32} {Io : xI} {Lo : xL} (X : Cx D dA s0 p m c cX5_orders 4 s args RX5 meth) (hr : meth.sig.returnType = (some .int))   (k : Nat) : ∀ {I : xI} {L : xL} {x0 : Nat} {x1 : Int32} {x2 : Int32} {H : Heap} {locs : List Loc} {ls : Array Slot} , fX5_orders_b140 nf T N R k I L x0 x1 x2 = some (ro, Io, Lo) → Iv D dA s0 s T N Z I L R H locs → lv_has ls 4 [(0, .ref x0), (1, .int x1), (2, .int x2)] → W p l e { frames := 12, cells := 0, slots := 0, locals := 280 } s m args below meth c H locs 0 0 (MQ below (xQ D dA s0 (some (.int ro)) T N Z Io Lo R) args s 0 0 (fun q => s0 ≤ q)) (F0 m 140 ls []) := by
  have hx := X.1.1
  have hb := X.1.2.1
  induction k with
  | zero =>
    intro I L x0 x1 x2 H locs ls hf V hl
    exact absurd (show none = some _ from hf) (fun q => nomatch q)
  | succ k ih =>
    intro I L x0 x1 x2 H locs ls hf V hl
    rw [fX5_orders_b140] at hf
    refine lv_iload_n (pc := 140) hx hb dX5_orders_140 rfl (lv_at hl 2 rfl) ?_
    refine lv_aload_n (pc := 141) hx hb dX5_orders_141 rfl (lv_at hl 0 rfl) ?_
    replace hf := tg_s hf; obtain ⟨ht1, hf⟩ := hf
    refine x_get (pc := 142) X V okX5 ht1 21 (by decide) q1542 (v := .int (I x0 21)) rfl dX5_orders_142 ?_
    refine lv_icmp_ge (pc := 145) (tgt := 206) hx hb dX5_orders_145 (by decide) (fun c2 => ?_) (fun c2 => ?_)
    · replace hf := if_t hf c2
      refine lv_aload_n (pc := 206) hx hb dX5_orders_206 rfl (lv_at hl 0 rfl) ?_
      refine lv_aload_n (pc := 207) hx hb dX5_orders_207 rfl (lv_at hl 0 rfl) ?_
      refine x_get (pc := 208) X V okX5 ht1 50 (by decide) q1571 (v := .int (I x0 50)) rfl dX5_orders_208 ?_
      replace hf := b2s hf; obtain ⟨r3, I4, hk_5, hf⟩ := hf
      refine x_callV0 (pc := 211) (As := [.int (I x0 50)]) (rest := []) X V (mX5_tell l D dA s0 hk_5) okX5 ht1 q1701 q1703 qs45 q129 q1704 ⟨rfl, hsX5_tell⟩ ⟨Nat.le_of_ble_eq_true rfl, Nat.le_of_ble_eq_true rfl⟩ rfl hl.1 rfl (Nat.le_of_ble_eq_true rfl) dX5_orders_211 ⟨Nat.zero_le _, Nat.zero_le _⟩ (fun H locs V => W.eq (g2 := F0 m 214 ls [.int r3]) rfl ?_)
      cases hf
      exact x_iret (pc := 214) X V hr dX5_orders_214
    · replace hf := if_f hf c2
      refine lv_iconst (pc := 148) (v := (ii 0)) hx hb dX5_orders_148 (by decide) ?_
      refine lv_istore_n (pc := 149) (lv' := [(3, .int (ii 0)), (0, .ref x0), (1, .int x1), (2, .int x2)]) hx hb dX5_orders_149 rfl hl (by decide) rfl (fun ls hl => ?_)
      exact wX5_orders_b150 X hr ih nf hf V (lv_sub hl [1, 2, 3, 0] rfl)
set_option maxHeartbeats 400000 in
set_option maxRecDepth 100000 in
theorem wX5_orders_b104 {nf : Nat} {p : Program} {l : Launch} {e : Env} {s : State} {m : MethodId} {args : Array Value} {below : List Frame} {meth : Method} {c : Code} {D : va_G} {dA : Nat → ClassId} {s0 : Nat} {T : xT} {N : xT} {Z : Nat} {R : xR}  {ro : Int32} {Io : xI} {Lo : xL} (X : Cx D dA s0 p m c cX5_orders 4 s args RX5 meth) (hr : meth.sig.returnType = (some .int))   (k : Nat) : ∀ {I : xI} {L : xL} {x0 : Nat} {x1 : Int32} {x2 : Int32} {H : Heap} {locs : List Loc} {ls : Array Slot} , fX5_orders_b104 nf T N R k I L x0 x1 x2 = some (ro, Io, Lo) → Iv D dA s0 s T N Z I L R H locs → lv_has ls 4 [(0, .ref x0), (1, .int x1), (2, .int x2)] → W p l e { frames := 12, cells := 0, slots := 0, locals := 280 } s m args below meth c H locs 0 0 (MQ below (xQ D dA s0 (some (.int ro)) T N Z Io Lo R) args s 0 0 (fun q => s0 ≤ q)) (F0 m 104 ls []) := by
  have hx := X.1.1
  have hb := X.1.2.1
  induction k with
  | zero =>
    intro I L x0 x1 x2 H locs ls hf V hl
    exact absurd (show none = some _ from hf) (fun q => nomatch q)
  | succ k ih =>
    intro I L x0 x1 x2 H locs ls hf V hl
    rw [fX5_orders_b104] at hf
    refine lv_iload_n (pc := 104) hx hb dX5_orders_104 rfl (lv_at hl 2 rfl) ?_
    refine lv_bipush (pc := 105) (v := (ii 16)) hx hb dX5_orders_105 (by decide) ?_
    refine lv_icmp_ge (pc := 107) (tgt := 128) hx hb dX5_orders_107 (by decide) (fun c1 => ?_) (fun c1 => ?_)
    · replace hf := if_t hf c1
      refine lv_aload_n (pc := 128) hx hb dX5_orders_128 rfl (lv_at hl 0 rfl) ?_
      refine lv_iconst (pc := 129) (v := (ii 0)) hx hb dX5_orders_129 (by decide) ?_
      replace hf := tg_s hf; obtain ⟨ht2, hf⟩ := hf
      replace hf := nm_s hf; obtain ⟨I3, hI3, hf⟩ := hf
      refine x_puti (pc := 130) X V okX5 (by decide) ht2 50 (by decide) q1571 (Or.inl rfl) hI3 (fun _ _ _ => rfl) rfl rfl dX5_orders_130 (fun H locs V => ?_)
      refine lv_aload_n (pc := 133) hx hb dX5_orders_133 rfl (lv_at hl 0 rfl) ?_
      refine lv_iconst (pc := 134) (v := (-1 : Int32)) hx hb dX5_orders_134 (by decide) ?_
      replace hf := nm_s hf; obtain ⟨I4, hI4, hf⟩ := hf
      refine x_puti (pc := 135) X V okX5 (by decide) ht2 51 (by decide) q1572 (Or.inl rfl) hI4 (fun _ _ _ => rfl) rfl rfl dX5_orders_135 (fun H locs V => ?_)
      refine lv_iconst (pc := 138) (v := (ii 0)) hx hb dX5_orders_138 (by decide) ?_
      refine lv_istore_n (pc := 139) (lv' := [(2, .int (ii 0)), (0, .ref x0), (1, .int x1)]) hx hb dX5_orders_139 rfl hl (by decide) rfl (fun ls hl => ?_)
      exact wX5_orders_b140 X hr nf hf V (lv_sub hl [1, 2, 0] rfl)
    · replace hf := if_f hf c1
      refine lv_aload_n (pc := 110) hx hb dX5_orders_110 rfl (lv_at hl 0 rfl) ?_
      replace hf := tg_s hf; obtain ⟨ht5, hf⟩ := hf
      replace hf := bs hf; obtain ⟨a6, ha6, hf⟩ := hf
      refine x_get (pc := 111) X V okX5 ht5 10 (by decide) q1531 (v := va_rf (R x0 10)) rfl dX5_orders_111 ?_
      refine x_topr ha6 ?_
      refine lv_iload_n (pc := 114) hx hb dX5_orders_114 rfl (lv_at hl 2 rfl) ?_
      refine lv_aload_n (pc := 115) hx hb dX5_orders_115 rfl (lv_at hl 0 rfl) ?_
      replace hf := bs hf; obtain ⟨a7, ha7, hf⟩ := hf
      refine x_get (pc := 116) X V okX5 ht5 7 (by decide) q1528 (v := va_rf (R x0 7)) rfl dX5_orders_116 ?_
      refine x_topr ha7 ?_
      refine lv_iload_n (pc := 119) hx hb dX5_orders_119 rfl (lv_at hl 2 rfl) ?_
      replace hf := rA_s hf; obtain ⟨j8, hjj8, htj8, hij8, hf⟩ := hf
      refine x_iald (pc := 120) X V htj8 hij8 hjj8 dX5_orders_120 ?_
      replace hf := rA_s hf; obtain ⟨j9, hjj9, htj9, hij9, hf⟩ := hf
      replace hf := nm_s hf; obtain ⟨I10, hI10, hf⟩ := hf
      refine x_iast (pc := 121) X V htj9 hij9 hjj9 hI10 dX5_orders_121 (fun H locs V => ?_)
      replace hf := nm_s hf; obtain ⟨u11, hu11, hf⟩ := hf
      refine lv_iinc (pc := 122) (v := u11) (lv' := [(2, .int u11), (0, .ref x0), (1, .int x1)]) hx hb dX5_orders_122 hl (k := 2) rfl (by rw [hu11]; rfl) (by decide) rfl (fun ls hl => ?_)
      refine lv_goto (pc := 125) (tgt := 104) hx hb dX5_orders_125 (by decide) ?_
      exact ih hf V (lv_sub hl [1, 2, 0] rfl)
set_option maxHeartbeats 400000 in
set_option maxRecDepth 100000 in
theorem wX5_orders_b77 {nf : Nat} {p : Program} {l : Launch} {e : Env} {s : State} {m : MethodId} {args : Array Value} {below : List Frame} {meth : Method} {c : Code} {D : va_G} {dA : Nat → ClassId} {s0 : Nat} {T : xT} {N : xT} {Z : Nat} {R : xR}  {ro : Int32} {Io : xI} {Lo : xL} (X : Cx D dA s0 p m c cX5_orders 4 s args RX5 meth) (hr : meth.sig.returnType = (some .int))   (k : Nat) : ∀ {I : xI} {L : xL} {x0 : Nat} {x1 : Int32} {x2 : Int32} {H : Heap} {locs : List Loc} {ls : Array Slot} , fX5_orders_b77 nf T N R k I L x0 x1 x2 = some (ro, Io, Lo) → Iv D dA s0 s T N Z I L R H locs → lv_has ls 4 [(0, .ref x0), (1, .int x1), (2, .int x2)] → W p l e { frames := 12, cells := 0, slots := 0, locals := 280 } s m args below meth c H locs 0 0 (MQ below (xQ D dA s0 (some (.int ro)) T N Z Io Lo R) args s 0 0 (fun q => s0 ≤ q)) (F0 m 77 ls []) := by
  have hx := X.1.1
  have hb := X.1.2.1
  induction k with
  | zero =>
    intro I L x0 x1 x2 H locs ls hf V hl
    exact absurd (show none = some _ from hf) (fun q => nomatch q)
  | succ k ih =>
    intro I L x0 x1 x2 H locs ls hf V hl
    rw [fX5_orders_b77] at hf
    refine lv_iload_n (pc := 77) hx hb dX5_orders_77 rfl (lv_at hl 2 rfl) ?_
    refine lv_sipush (pc := 78) (v := (ii 336)) hx hb dX5_orders_78 (by decide) ?_
    refine lv_icmp_ge (pc := 81) (tgt := 102) hx hb dX5_orders_81 (by decide) (fun c1 => ?_) (fun c1 => ?_)
    · replace hf := if_t hf c1
      refine lv_iconst (pc := 102) (v := (ii 0)) hx hb dX5_orders_102 (by decide) ?_
      refine lv_istore_n (pc := 103) (lv' := [(2, .int (ii 0)), (0, .ref x0), (1, .int x1)]) hx hb dX5_orders_103 rfl hl (by decide) rfl (fun ls hl => ?_)
      exact wX5_orders_b104 X hr nf hf V (lv_sub hl [1, 2, 0] rfl)
    · replace hf := if_f hf c1
      refine lv_aload_n (pc := 84) hx hb dX5_orders_84 rfl (lv_at hl 0 rfl) ?_
      replace hf := tg_s hf; obtain ⟨ht2, hf⟩ := hf
      replace hf := bs hf; obtain ⟨a3, ha3, hf⟩ := hf
      refine x_get (pc := 85) X V okX5 ht2 9 (by decide) q1530 (v := va_rf (R x0 9)) rfl dX5_orders_85 ?_
      refine x_topr ha3 ?_
      refine lv_iload_n (pc := 88) hx hb dX5_orders_88 rfl (lv_at hl 2 rfl) ?_
      refine lv_aload_n (pc := 89) hx hb dX5_orders_89 rfl (lv_at hl 0 rfl) ?_
      replace hf := bs hf; obtain ⟨a4, ha4, hf⟩ := hf
      refine x_get (pc := 90) X V okX5 ht2 6 (by decide) q1527 (v := va_rf (R x0 6)) rfl dX5_orders_90 ?_
      refine x_topr ha4 ?_
      refine lv_iload_n (pc := 93) hx hb dX5_orders_93 rfl (lv_at hl 2 rfl) ?_
      replace hf := rA_s hf; obtain ⟨j5, hjj5, htj5, hij5, hf⟩ := hf
      refine x_iald (pc := 94) X V htj5 hij5 hjj5 dX5_orders_94 ?_
      replace hf := rA_s hf; obtain ⟨j6, hjj6, htj6, hij6, hf⟩ := hf
      replace hf := nm_s hf; obtain ⟨I7, hI7, hf⟩ := hf
      refine x_iast (pc := 95) X V htj6 hij6 hjj6 hI7 dX5_orders_95 (fun H locs V => ?_)
      replace hf := nm_s hf; obtain ⟨u8, hu8, hf⟩ := hf
      refine lv_iinc (pc := 96) (v := u8) (lv' := [(2, .int u8), (0, .ref x0), (1, .int x1)]) hx hb dX5_orders_96 hl (k := 2) rfl (by rw [hu8]; rfl) (by decide) rfl (fun ls hl => ?_)
      refine lv_goto (pc := 99) (tgt := 77) hx hb dX5_orders_99 (by decide) ?_
      exact ih hf V (lv_sub hl [1, 2, 0] rfl)
set_option maxHeartbeats 400000 in
set_option maxRecDepth 100000 in
theorem wX5_orders_b46 {nf : Nat} {p : Program} {l : Launch} {e : Env} {s : State} {m : MethodId} {args : Array Value} {below : List Frame} {meth : Method} {c : Code} {D : va_G} {dA : Nat → ClassId} {s0 : Nat} {T : xT} {N : xT} {Z : Nat} {I : xI} {L : xL} {R : xR} {H : Heap} {locs : List Loc} {ls : Array Slot}  {x0 : Nat} {ro : Int32} {Io : xI} {Lo : xL} (X : Cx D dA s0 p m c cX5_orders 4 s args RX5 meth) (hr : meth.sig.returnType = (some .int))   (hf : fX5_orders_b46 nf T N I L R x0 = some (ro, Io, Lo)) (V : Iv D dA s0 s T N Z I L R H locs) (hl : lv_has ls 4 [(0, .ref x0)]) : W p l e { frames := 12, cells := 0, slots := 0, locals := 280 } s m args below meth c H locs 0 0 (MQ below (xQ D dA s0 (some (.int ro)) T N Z Io Lo R) args s 0 0 (fun q => s0 ≤ q)) (F0 m 46 ls []) := by
  have hx := X.1.1
  have hb := X.1.2.1
  unfold fX5_orders_b46 at hf
  refine lv_aload_n (pc := 46) hx hb dX5_orders_46 rfl (lv_at hl 0 rfl) ?_
  replace hf := tg_s hf; obtain ⟨ht4, hf⟩ := hf
  replace hf := b2s hf; obtain ⟨I1, L2, hk_3, hf⟩ := hf
  refine x_callV0 (pc := 47) (As := []) (rest := []) X V (mX5_endText l D dA s0 hk_3) okX5 ht4 q1957 q1959 qs85 q129 q1960 ⟨rfl, hsX5_endText⟩ ⟨Nat.le_of_ble_eq_true rfl, Nat.le_of_ble_eq_true rfl⟩ rfl hl.1 rfl (Nat.le_of_ble_eq_true rfl) dX5_orders_47 ⟨Nat.zero_le _, Nat.zero_le _⟩ (fun H locs V => W.eq (g2 := F0 m 50 ls []) rfl ?_)
  refine lv_aload_n (pc := 50) hx hb dX5_orders_50 rfl (lv_at hl 0 rfl) ?_
  refine x_get (pc := 51) X V okX5 ht4 19 (by decide) q1540 (v := .int (I1 x0 19)) rfl dX5_orders_51 ?_
  refine lv_if_eq (pc := 54) (tgt := 64) hx hb dX5_orders_54 (by decide) (fun c5 => ?_) (fun c5 => ?_)
  · replace hf := if_t hf c5
    refine lv_aload_n (pc := 64) hx hb dX5_orders_64 rfl (lv_at hl 0 rfl) ?_
    refine lv_bipush (pc := 65) (v := (ii 17)) hx hb dX5_orders_65 (by decide) ?_
    replace hf := bs hf; obtain ⟨I6, hk_7, hf⟩ := hf
    refine x_callV0 (pc := 67) (As := [.int (ii 17)]) (rest := []) X V (mX5_keepAll l D dA s0 hk_7) okX5 ht4 q1981 q1983 qs89 q129 q1984 ⟨rfl, hsX5_keepAll⟩ ⟨Nat.le_of_ble_eq_true rfl, Nat.le_of_ble_eq_true rfl⟩ rfl hl.1 rfl (Nat.le_of_ble_eq_true rfl) dX5_orders_67 ⟨Nat.zero_le _, Nat.zero_le _⟩ (fun H locs V => W.eq (g2 := F0 m 70 ls []) rfl ?_)
    refine lv_aload_n (pc := 70) hx hb dX5_orders_70 rfl (lv_at hl 0 rfl) ?_
    refine x_get (pc := 71) X V okX5 ht4 8 (by decide) q1529 (v := .int (I6 x0 8)) rfl dX5_orders_71 ?_
    replace hf := nm_s hf; obtain ⟨u8, hu8, hf⟩ := hf
    refine x_topi hu8 ?_
    refine lv_istore_n (pc := 74) (lv' := [(1, .int u8), (0, .ref x0)]) hx hb dX5_orders_74 rfl hl (by decide) rfl (fun ls hl => ?_)
    refine lv_iconst (pc := 75) (v := (ii 0)) hx hb dX5_orders_75 (by decide) ?_
    refine lv_istore_n (pc := 76) (lv' := [(2, .int (ii 0)), (1, .int u8), (0, .ref x0)]) hx hb dX5_orders_76 rfl hl (by decide) rfl (fun ls hl => ?_)
    exact wX5_orders_b77 X hr nf hf V (lv_sub hl [2, 1, 0] rfl)
  · replace hf := if_f hf c5
    refine lv_aload_n (pc := 57) hx hb dX5_orders_57 rfl (lv_at hl 0 rfl) ?_
    refine lv_bipush (pc := 58) (v := (-6 : Int32)) hx hb dX5_orders_58 (by decide) ?_
    replace hf := b2s hf; obtain ⟨r9, I10, hk_11, hf⟩ := hf
    refine x_callV0 (pc := 60) (As := [.int (-6 : Int32)]) (rest := []) X V (mX5_tell l D dA s0 hk_11) okX5 ht4 q1701 q1703 qs45 q129 q1704 ⟨rfl, hsX5_tell⟩ ⟨Nat.le_of_ble_eq_true rfl, Nat.le_of_ble_eq_true rfl⟩ rfl hl.1 rfl (Nat.le_of_ble_eq_true rfl) dX5_orders_60 ⟨Nat.zero_le _, Nat.zero_le _⟩ (fun H locs V => W.eq (g2 := F0 m 63 ls [.int r9]) rfl ?_)
    cases hf
    exact x_iret (pc := 63) X V hr dX5_orders_63
set_option maxHeartbeats 400000 in
set_option maxRecDepth 100000 in
theorem wX5_orders_b19 {nf : Nat} {p : Program} {l : Launch} {e : Env} {s : State} {m : MethodId} {args : Array Value} {below : List Frame} {meth : Method} {c : Code} {D : va_G} {dA : Nat → ClassId} {s0 : Nat} {T : xT} {N : xT} {Z : Nat} {R : xR}  {ro : Int32} {Io : xI} {Lo : xL} (X : Cx D dA s0 p m c cX5_orders 4 s args RX5 meth) (hr : meth.sig.returnType = (some .int))   (k : Nat) : ∀ {I : xI} {L : xL} {x0 : Nat} {H : Heap} {locs : List Loc} {ls : Array Slot} , fX5_orders_b19 nf T N R k I L x0 = some (ro, Io, Lo) → Iv D dA s0 s T N Z I L R H locs → lv_has ls 4 [(0, .ref x0)] → W p l e { frames := 12, cells := 0, slots := 0, locals := 280 } s m args below meth c H locs 0 0 (MQ below (xQ D dA s0 (some (.int ro)) T N Z Io Lo R) args s 0 0 (fun q => s0 ≤ q)) (F0 m 19 ls []) := by
  have hx := X.1.1
  have hb := X.1.2.1
  induction k with
  | zero =>
    intro I L x0 H locs ls hf V hl
    exact absurd (show none = some _ from hf) (fun q => nomatch q)
  | succ k ih =>
    intro I L x0 H locs ls hf V hl
    rw [fX5_orders_b19] at hf
    refine lv_aload_n (pc := 19) hx hb dX5_orders_19 rfl (lv_at hl 0 rfl) ?_
    replace hf := tg_s hf; obtain ⟨ht1, hf⟩ := hf
    refine x_get (pc := 20) X V okX5 ht1 19 (by decide) q1540 (v := .int (I x0 19)) rfl dX5_orders_20 ?_
    refine lv_if_ne (pc := 23) (tgt := 46) hx hb dX5_orders_23 (by decide) (fun c2 => ?_) (fun c2 => ?_)
    · replace hf := if_f hf c2
      exact wX5_orders_b46 X hr hf V (lv_sub hl [0] rfl)
    · replace hf := if_t hf c2
      refine lv_aload_n (pc := 26) hx hb dX5_orders_26 rfl (lv_at hl 0 rfl) ?_
      refine lv_bipush (pc := 27) (v := (ii 59)) hx hb dX5_orders_27 (by decide) ?_
      replace hf := bs hf; obtain ⟨r3, hk_4, hf⟩ := hf
      refine x_callV0 (pc := 29) (As := [.int (ii 59)]) (rest := []) X V (mX5_isSign l D dA s0 hk_4) okX5 ht1 q1893 q1895 qs72 q129 q1896 ⟨rfl, hsX5_isSign⟩ ⟨Nat.le_of_ble_eq_true rfl, Nat.le_of_ble_eq_true rfl⟩ rfl hl.1 rfl (Nat.le_of_ble_eq_true rfl) dX5_orders_29 ⟨Nat.zero_le _, Nat.zero_le _⟩ (fun H locs V => W.eq (g2 := F0 m 32 ls [.int r3]) rfl ?_)
      refine lv_if_eq (pc := 32) (tgt := 46) hx hb dX5_orders_32 (by decide) (fun c5 => ?_) (fun c5 => ?_)
      · replace hf := if_t hf c5
        exact wX5_orders_b46 X hr hf V (lv_sub hl [0] rfl)
      · replace hf := if_f hf c5
        refine lv_aload_n (pc := 35) hx hb dX5_orders_35 rfl (lv_at hl 0 rfl) ?_
        replace hf := b2s hf; obtain ⟨I6, L7, hk_8, hf⟩ := hf
        refine x_callV0 (pc := 36) (As := []) (rest := []) X V (mX5_next l D dA s0 hk_8) okX5 ht1 q1854 q1856 qs65 q129 q1857 ⟨rfl, hsX5_next⟩ ⟨Nat.le_of_ble_eq_true rfl, Nat.le_of_ble_eq_true rfl⟩ rfl hl.1 rfl (Nat.le_of_ble_eq_true rfl) dX5_orders_36 ⟨Nat.zero_le _, Nat.zero_le _⟩ (fun H locs V => W.eq (g2 := F0 m 39 ls []) rfl ?_)
        refine lv_aload_n (pc := 39) hx hb dX5_orders_39 rfl (lv_at hl 0 rfl) ?_
        replace hf := b2s hf; obtain ⟨I9, L10, hk_11, hf⟩ := hf
        refine x_callV0 (pc := 40) (As := []) (rest := []) X V (mX5_readOrder l D dA s0 hk_11) okX5 ht1 q2162 q2164 qs110 q129 q2165 ⟨rfl, hsX5_readOrder⟩ ⟨Nat.le_of_ble_eq_true rfl, Nat.le_of_ble_eq_true rfl⟩ rfl hl.1 rfl (Nat.le_of_ble_eq_true rfl) dX5_orders_40 ⟨Nat.zero_le _, Nat.zero_le _⟩ (fun H locs V => W.eq (g2 := F0 m 43 ls []) rfl ?_)
        refine lv_goto (pc := 43) (tgt := 19) hx hb dX5_orders_43 (by decide) ?_
        exact ih hf V (lv_sub hl [0] rfl)
set_option maxHeartbeats 400000 in
set_option maxRecDepth 100000 in
theorem wX5_orders_e {nf : Nat} {p : Program} {l : Launch} {e : Env} {s : State} {m : MethodId} {args : Array Value} {below : List Frame} {meth : Method} {c : Code} {D : va_G} {dA : Nat → ClassId} {s0 : Nat} {T : xT} {N : xT} {Z : Nat} {I : xI} {L : xL} {R : xR} {H : Heap} {locs : List Loc} {ls : Array Slot} {x0 : Nat} {ro : Int32} {Io : xI} {Lo : xL} (X : Cx D dA s0 p m c cX5_orders 4 s args RX5 meth) (hr : meth.sig.returnType = (some .int)) (hf : fX5_orders nf T N I L R x0 = some (ro, Io, Lo)) (V : Iv D dA s0 s T N Z I L R H locs) (hl : lv_has ls 4 [(0, .ref x0)]) : W p l e { frames := 12, cells := 0, slots := 0, locals := 280 } s m args below meth c H locs 0 0 (MQ below (xQ D dA s0 (some (.int ro)) T N Z Io Lo R) args s 0 0 (fun q => s0 ≤ q)) (F0 m 0 ls []) := by
  have hx := X.1.1
  have hb := X.1.2.1
  unfold fX5_orders at hf
  refine lv_aload_n (pc := 0) hx hb dX5_orders_0 rfl (lv_at hl 0 rfl) ?_
  refine lv_iconst (pc := 1) (v := (ii 0)) hx hb dX5_orders_1 (by decide) ?_
  replace hf := tg_s hf; obtain ⟨ht1, hf⟩ := hf
  replace hf := nm_s hf; obtain ⟨I2, hI2, hf⟩ := hf
  refine x_puti (pc := 2) X V okX5 (by decide) ht1 0 (by decide) q1521 (Or.inl rfl) hI2 (fun _ _ _ => rfl) rfl rfl dX5_orders_2 (fun H locs V => ?_)
  refine lv_aload_n (pc := 5) hx hb dX5_orders_5 rfl (lv_at hl 0 rfl) ?_
  refine lv_iconst (pc := 6) (v := (-1 : Int32)) hx hb dX5_orders_6 (by decide) ?_
  replace hf := nm_s hf; obtain ⟨I3, hI3, hf⟩ := hf
  refine x_puti (pc := 7) X V okX5 (by decide) ht1 52 (by decide) q1573 (Or.inl rfl) hI3 (fun _ _ _ => rfl) rfl rfl dX5_orders_7 (fun H locs V => ?_)
  refine lv_aload_n (pc := 10) hx hb dX5_orders_10 rfl (lv_at hl 0 rfl) ?_
  refine lv_iconst (pc := 11) (v := (ii 1)) hx hb dX5_orders_11 (by decide) ?_
  replace hf := b2s hf; obtain ⟨I4, L5, hk_6, hf⟩ := hf
  refine x_callV0 (pc := 12) (As := [.int (ii 1)]) (rest := []) X V (mX5_beginText l D dA s0 hk_6) okX5 ht1 q1846 q1848 qs63 q129 q1849 ⟨rfl, hsX5_beginText⟩ ⟨Nat.le_of_ble_eq_true rfl, Nat.le_of_ble_eq_true rfl⟩ rfl hl.1 rfl (Nat.le_of_ble_eq_true rfl) dX5_orders_12 ⟨Nat.zero_le _, Nat.zero_le _⟩ (fun H locs V => W.eq (g2 := F0 m 15 ls []) rfl ?_)
  refine lv_aload_n (pc := 15) hx hb dX5_orders_15 rfl (lv_at hl 0 rfl) ?_
  replace hf := b2s hf; obtain ⟨I7, L8, hk_9, hf⟩ := hf
  refine x_callV0 (pc := 16) (As := []) (rest := []) X V (mX5_readOrder l D dA s0 hk_9) okX5 ht1 q2162 q2164 qs110 q129 q2165 ⟨rfl, hsX5_readOrder⟩ ⟨Nat.le_of_ble_eq_true rfl, Nat.le_of_ble_eq_true rfl⟩ rfl hl.1 rfl (Nat.le_of_ble_eq_true rfl) dX5_orders_16 ⟨Nat.zero_le _, Nat.zero_le _⟩ (fun H locs V => W.eq (g2 := F0 m 19 ls []) rfl ?_)
  exact wX5_orders_b19 X hr nf hf V (lv_sub hl [0] rfl)
theorem mX5_orders {nf : Nat} (l : Launch) (D : va_G) (dA : Nat → ClassId) (s0 : Nat) {T : xT} {N : xT} {Z : Nat} {I : xI} {L : xL} {R : xR} {x0 : Nat} {ro : Int32} {Io : xI} {Lo : xL} (hf : fX5_orders nf T N I L R x0 = some (ro, Io, Lo)) : XMet l D dA s0 yX5_orders (ws_ yX5_orders cX5_orders 4 ((some .int))) (12) (280) [.ref x0] T N Z I L R (some (.int ro)) T N Z Io Lo R 0 0 :=
  x_start (own := RX5) rfl (by decide) (Nat.le_of_ble_eq_true rfl) (lv := [(0, .ref x0)]) rfl (fun p e s m below meth c ls X hr hini V hl => wX5_orders_e X hr hf V hl)
set_option maxHeartbeats 400000 in
set_option maxRecDepth 100000 in
theorem wX5_stopped_e {p : Program} {l : Launch} {e : Env} {s : State} {m : MethodId} {args : Array Value} {below : List Frame} {meth : Method} {c : Code} {D : va_G} {dA : Nat → ClassId} {s0 : Nat} {T : xT} {N : xT} {Z : Nat} {I : xI} {L : xL} {R : xR} {H : Heap} {locs : List Loc} {ls : Array Slot} {x0 : Nat} {ro : Int32} {Io : xI} (X : Cx D dA s0 p m c cX5_stopped 1 s args RX5 meth) (hr : meth.sig.returnType = (some .int)) (hf : fX5_stopped T I x0 = some (ro, Io)) (V : Iv D dA s0 s T N Z I L R H locs) (hl : lv_has ls 1 [(0, .ref x0)]) : W p l e { frames := 0, cells := 0, slots := 0, locals := 0 } s m args below meth c H locs 0 0 (MQ below (xQ D dA s0 (some (.int ro)) T N Z Io L R) args s 0 0 (fun q => s0 ≤ q)) (F0 m 0 ls []) := by
  have hx := X.1.1
  have hb := X.1.2.1
  unfold fX5_stopped at hf
  refine lv_aload_n (pc := 0) hx hb dX5_stopped_0 rfl (lv_at hl 0 rfl) ?_
  refine lv_iconst (pc := 1) (v := (ii 0)) hx hb dX5_stopped_1 (by decide) ?_
  replace hf := tg_s hf; obtain ⟨ht1, hf⟩ := hf
  replace hf := nm_s hf; obtain ⟨I2, hI2, hf⟩ := hf
  refine x_puti (pc := 2) X V okX5 (by decide) ht1 0 (by decide) q1521 (Or.inl rfl) hI2 (fun _ _ _ => rfl) rfl rfl dX5_stopped_2 (fun H locs V => ?_)
  refine lv_aload_n (pc := 5) hx hb dX5_stopped_5 rfl (lv_at hl 0 rfl) ?_
  refine x_get (pc := 6) X V okX5 ht1 52 (by decide) q1573 (v := .int (I2 x0 52)) rfl dX5_stopped_6 ?_
  cases hf
  exact x_iret (pc := 9) X V hr dX5_stopped_9
theorem mX5_stopped (l : Launch) (D : va_G) (dA : Nat → ClassId) (s0 : Nat) {T : xT} {N : xT} {Z : Nat} {I : xI} {L : xL} {R : xR} {x0 : Nat} {ro : Int32} {Io : xI} (hf : fX5_stopped T I x0 = some (ro, Io)) : XMet l D dA s0 yX5_stopped (ws_ yX5_stopped cX5_stopped 1 ((some .int))) (0) (0) [.ref x0] T N Z I L R (some (.int ro)) T N Z Io L R 0 0 :=
  x_start (own := RX5) rfl (by decide) (Nat.le_of_ble_eq_true rfl) (lv := [(0, .ref x0)]) rfl (fun p e s m below meth c ls X hr hini V hl => wX5_stopped_e X hr hf V hl)
set_option maxHeartbeats 400000 in
set_option maxRecDepth 100000 in
theorem wX5_draw_e {p : Program} {l : Launch} {e : Env} {s : State} {m : MethodId} {args : Array Value} {below : List Frame} {meth : Method} {c : Code} {D : va_G} {dA : Nat → ClassId} {s0 : Nat} {T : xT} {N : xT} {Z : Nat} {I : xI} {L : xL} {R : xR} {H : Heap} {locs : List Loc} {ls : Array Slot} {x0 : Nat} {x1 : Int32} {ro : Int32} {Lo : xL} (X : Cx D dA s0 p m c cX5_draw 2 s args RX5 meth) (hr : meth.sig.returnType = (some .int)) (hf : fX5_draw T L x0 x1 = some (ro, Lo)) (V : Iv D dA s0 s T N Z I L R H locs) (hl : lv_has ls 2 [(0, .ref x0), (1, .int x1)]) : W p l e { frames := 0, cells := 0, slots := 0, locals := 0 } s m args below meth c H locs 0 0 (MQ below (xQ D dA s0 (some (.int ro)) T N Z I Lo R) args s 0 0 (fun q => s0 ≤ q)) (F0 m 0 ls []) := by
  have hx := X.1.1
  have hb := X.1.2.1
  unfold fX5_draw at hf
  refine lv_aload_n (pc := 0) hx hb dX5_draw_0 rfl (lv_at hl 0 rfl) ?_
  refine lv_aload_n (pc := 1) hx hb dX5_draw_1 rfl (lv_at hl 0 rfl) ?_
  replace hf := tg_s hf; obtain ⟨ht1, hf⟩ := hf
  refine x_get (pc := 2) X V okX5 ht1 54 (by decide) q1575 (v := .long (L x0 54)) rfl dX5_draw_2 ?_
  refine lv_ldc2 (pc := 5) (v := (jj 1103)) hx hb X.1.2.2.2.1 (X.1.2.2.2.2 _ q2204) dX5_draw_5 ?_
  refine lv_lmul (pc := 8) hx hb dX5_draw_8 ?_
  refine lv_ldc2 (pc := 9) (v := (jj 12345)) hx hb X.1.2.2.2.1 (X.1.2.2.2.2 _ q2205) dX5_draw_9 ?_
  refine lv_ladd (pc := 12) hx hb dX5_draw_12 ?_
  refine lv_ldc2 (pc := 13) (v := (jj 1000003)) hx hb X.1.2.2.2.1 (X.1.2.2.2.2 _ q2206) dX5_draw_13 ?_
  refine lv_lrem (pc := 16) hx hb dX5_draw_16 (by decide) ?_
  replace hf := nm_s hf; obtain ⟨L2, hL2, hf⟩ := hf
  refine x_putl (pc := 17) X V okX5 (by decide) ht1 54 (by decide) q1575 (Or.inl rfl) hL2 (fun _ _ _ => rfl) rfl rfl dX5_draw_17 (fun H locs V => ?_)
  refine lv_aload_n (pc := 20) hx hb dX5_draw_20 rfl (lv_at hl 0 rfl) ?_
  refine x_get (pc := 21) X V okX5 ht1 54 (by decide) q1575 (v := .long (L2 x0 54)) rfl dX5_draw_21 ?_
  refine lv_iload_n (pc := 24) hx hb dX5_draw_24 rfl (lv_at hl 1 rfl) ?_
  refine lv_i2l (pc := 25) hx hb dX5_draw_25 rfl ?_
  replace hf := chk_s hf; obtain ⟨hc3, hf⟩ := hf
  refine lv_lrem (pc := 26) hx hb dX5_draw_26 (of_decide_eq_true hc3) ?_
  refine lv_l2i (pc := 27) hx hb dX5_draw_27 rfl ?_
  cases hf
  exact x_iret (pc := 28) X V hr dX5_draw_28
theorem mX5_draw (l : Launch) (D : va_G) (dA : Nat → ClassId) (s0 : Nat) {T : xT} {N : xT} {Z : Nat} {I : xI} {L : xL} {R : xR} {x0 : Nat} {x1 : Int32} {ro : Int32} {Lo : xL} (hf : fX5_draw T L x0 x1 = some (ro, Lo)) : XMet l D dA s0 yX5_draw (ws_ yX5_draw cX5_draw 2 ((some .int))) (0) (0) [.ref x0, .int x1] T N Z I L R (some (.int ro)) T N Z I Lo R 0 0 :=
  x_start (own := RX5) rfl (by decide) (Nat.le_of_ble_eq_true rfl) (lv := [(0, .ref x0), (1, .int x1)]) rfl (fun p e s m below meth c ls X hr hini V hl => wX5_draw_e X hr hf V hl)
set_option maxHeartbeats 400000 in
set_option maxRecDepth 100000 in
theorem wX5_decades_b180 {nf : Nat} {p : Program} {l : Launch} {e : Env} {s : State} {m : MethodId} {args : Array Value} {below : List Frame} {meth : Method} {c : Code} {D : va_G} {dA : Nat → ClassId} {s0 : Nat} {T : xT} {N : xT} {Z : Nat} {R : xR}  {ro : Int32} {Io : xI} {Lo : xL} (X : Cx D dA s0 p m c cX5_decades 7 s args RX5 meth) (hr : meth.sig.returnType = (some .int))   (k : Nat) : ∀ {I : xI} {L : xL} {x0 : Nat} {x3 : Int32} {H : Heap} {locs : List Loc} {ls : Array Slot} , fX5_decades_b180 nf T N R k I L x0 x3 = some (ro, Io, Lo) → Iv D dA s0 s T N Z I L R H locs → lv_has ls 7 [(0, .ref x0), (3, .int x3)] → W p l e { frames := 9, cells := 0, slots := 0, locals := 213 } s m args below meth c H locs 0 0 (MQ below (xQ D dA s0 (some (.int ro)) T N Z Io Lo R) args s 0 0 (fun q => s0 ≤ q)) (F0 m 180 ls []) := by
  have hx := X.1.1
  have hb := X.1.2.1
  induction k with
  | zero =>
    intro I L x0 x3 H locs ls hf V hl
    exact absurd (show none = some _ from hf) (fun q => nomatch q)
  | succ k ih =>
    intro I L x0 x3 H locs ls hf V hl
    rw [fX5_decades_b180] at hf
    refine lv_iload_n (pc := 180) hx hb dX5_decades_180 rfl (lv_at hl 1 rfl) ?_
    refine lv_bipush (pc := 181) (v := (ii 21)) hx hb dX5_decades_181 (by decide) ?_
    refine lv_icmp_ge (pc := 183) (tgt := 206) hx hb dX5_decades_183 (by decide) (fun c1 => ?_) (fun c1 => ?_)
    · replace hf := if_t hf c1
      refine lv_aload_n (pc := 206) hx hb dX5_decades_206 rfl (lv_at hl 0 rfl) ?_
      refine lv_aload_n (pc := 207) hx hb dX5_decades_207 rfl (lv_at hl 0 rfl) ?_
      replace hf := tg_s hf; obtain ⟨ht2, hf⟩ := hf
      replace hf := bs hf; obtain ⟨a3, ha3, hf⟩ := hf
      refine x_get (pc := 208) X V okX5 ht2 3 (by decide) q1524 (v := va_rf (R x0 3)) rfl dX5_decades_208 ?_
      refine x_topr ha3 ?_
      refine lv_iconst (pc := 211) (v := (ii 0)) hx hb dX5_decades_211 (by decide) ?_
      replace hf := rA_s hf; obtain ⟨j4, hjj4, htj4, hij4, hf⟩ := hf
      refine x_iald (pc := 212) X V htj4 hij4 hjj4 dX5_decades_212 ?_
      replace hf := nm_s hf; obtain ⟨I5, hI5, hf⟩ := hf
      refine x_puti (pc := 213) X V okX5 (by decide) ht2 56 (by decide) q1577 (Or.inl rfl) hI5 (fun _ _ _ => rfl) rfl rfl dX5_decades_213 (fun H locs V => ?_)
      refine lv_aload_n (pc := 216) hx hb dX5_decades_216 rfl (lv_at hl 0 rfl) ?_
      refine lv_aload_n (pc := 217) hx hb dX5_decades_217 rfl (lv_at hl 0 rfl) ?_
      refine x_get (pc := 218) X V okX5 ht2 3 (by decide) q1524 (v := va_rf (R x0 3)) rfl dX5_decades_218 ?_
      refine x_topr ha3 ?_
      refine lv_iconst (pc := 221) (v := (ii 1)) hx hb dX5_decades_221 (by decide) ?_
      replace hf := rA_s hf; obtain ⟨j6, hjj6, htj6, hij6, hf⟩ := hf
      refine x_iald (pc := 222) X V htj6 hij6 hjj6 dX5_decades_222 ?_
      replace hf := nm_s hf; obtain ⟨I7, hI7, hf⟩ := hf
      refine x_puti (pc := 223) X V okX5 (by decide) ht2 57 (by decide) q1578 (Or.inl rfl) hI7 (fun _ _ _ => rfl) rfl rfl dX5_decades_223 (fun H locs V => ?_)
      refine lv_aload_n (pc := 226) hx hb dX5_decades_226 rfl (lv_at hl 0 rfl) ?_
      replace hf := bs hf; obtain ⟨r8, hk_9, hf⟩ := hf
      refine x_callV0 (pc := 227) (As := []) (rest := []) X V (mX5_namedOnes l D dA s0 hk_9) okX5 ht2 q2176 q2178 qs113 q129 q2179 ⟨rfl, hsX5_namedOnes⟩ ⟨Nat.le_of_ble_eq_true rfl, Nat.le_of_ble_eq_true rfl⟩ rfl hl.1 rfl (Nat.le_of_ble_eq_true rfl) dX5_decades_227 ⟨Nat.zero_le _, Nat.zero_le _⟩ (fun H locs V => W.eq (g2 := F0 m 230 ls [.int r8]) rfl ?_)
      refine lv_istore_n (pc := 230) (lv' := [(3, .int r8), (0, .ref x0)]) hx hb dX5_decades_230 rfl hl (by decide) rfl (fun ls hl => ?_)
      refine lv_aload_n (pc := 231) hx hb dX5_decades_231 rfl (lv_at hl 1 rfl) ?_
      refine lv_bipush (pc := 232) (v := (ii 16)) hx hb dX5_decades_232 (by decide) ?_
      replace hf := bs hf; obtain ⟨I10, hk_11, hf⟩ := hf
      refine x_callV0 (pc := 234) (As := [.int (ii 16)]) (rest := []) X V (mX5_putBack l D dA s0 hk_11) okX5 ht2 q1705 q1707 qs46 q129 q1708 ⟨rfl, hsX5_putBack⟩ ⟨Nat.le_of_ble_eq_true rfl, Nat.le_of_ble_eq_true rfl⟩ rfl hl.1 rfl (Nat.le_of_ble_eq_true rfl) dX5_decades_234 ⟨Nat.zero_le _, Nat.zero_le _⟩ (fun H locs V => W.eq (g2 := F0 m 237 ls []) rfl ?_)
      refine lv_aload_n (pc := 237) hx hb dX5_decades_237 rfl (lv_at hl 1 rfl) ?_
      refine lv_iload_n (pc := 238) hx hb dX5_decades_238 rfl (lv_at hl 0 rfl) ?_
      replace hf := b2s hf; obtain ⟨r12, I13, hk_14, hf⟩ := hf
      refine x_callV0 (pc := 239) (As := [.int r8]) (rest := []) X V (mX5_tell l D dA s0 hk_14) okX5 ht2 q1701 q1703 qs45 q129 q1704 ⟨rfl, hsX5_tell⟩ ⟨Nat.le_of_ble_eq_true rfl, Nat.le_of_ble_eq_true rfl⟩ rfl hl.1 rfl (Nat.le_of_ble_eq_true rfl) dX5_decades_239 ⟨Nat.zero_le _, Nat.zero_le _⟩ (fun H locs V => W.eq (g2 := F0 m 242 ls [.int r12]) rfl ?_)
      cases hf
      exact x_iret (pc := 242) X V hr dX5_decades_242
    · replace hf := if_f hf c1
      refine lv_aload_n (pc := 186) hx hb dX5_decades_186 rfl (lv_at hl 0 rfl) ?_
      replace hf := tg_s hf; obtain ⟨ht15, hf⟩ := hf
      replace hf := bs hf; obtain ⟨a16, ha16, hf⟩ := hf
      refine x_get (pc := 187) X V okX5 ht15 55 (by decide) q1576 (v := va_rf (R x0 55)) rfl dX5_decades_187 ?_
      refine x_topr ha16 ?_
      refine lv_iload_n (pc := 190) hx hb dX5_decades_190 rfl (lv_at hl 1 rfl) ?_
      refine lv_aload_n (pc := 191) hx hb dX5_decades_191 rfl (lv_at hl 0 rfl) ?_
      replace hf := bs hf; obtain ⟨a17, ha17, hf⟩ := hf
      refine x_get (pc := 192) X V okX5 ht15 3 (by decide) q1524 (v := va_rf (R x0 3)) rfl dX5_decades_192 ?_
      refine x_topr ha17 ?_
      refine lv_iconst (pc := 195) (v := (ii 5)) hx hb dX5_decades_195 (by decide) ?_
      refine lv_iload_n (pc := 196) hx hb dX5_decades_196 rfl (lv_at hl 1 rfl) ?_
      refine lv_iadd (pc := 197) hx hb dX5_decades_197 ?_
      replace hf := rA_s hf; obtain ⟨j18, hjj18, htj18, hij18, hf⟩ := hf
      refine x_iald (pc := 198) X V htj18 hij18 hjj18 dX5_decades_198 ?_
      replace hf := rA_s hf; obtain ⟨j19, hjj19, htj19, hij19, hf⟩ := hf
      replace hf := nm_s hf; obtain ⟨I20, hI20, hf⟩ := hf
      refine x_iast (pc := 199) X V htj19 hij19 hjj19 hI20 dX5_decades_199 (fun H locs V => ?_)
      replace hf := nm_s hf; obtain ⟨u21, hu21, hf⟩ := hf
      refine lv_iinc (pc := 200) (v := u21) (lv' := [(3, .int u21), (0, .ref x0)]) hx hb dX5_decades_200 hl (k := 1) rfl (by rw [hu21]; rfl) (by decide) rfl (fun ls hl => ?_)
      refine lv_goto (pc := 203) (tgt := 180) hx hb dX5_decades_203 (by decide) ?_
      exact ih hf V (lv_sub hl [1, 0] rfl)
set_option maxHeartbeats 400000 in
set_option maxRecDepth 100000 in
theorem wX5_decades_b166 {nf : Nat} {p : Program} {l : Launch} {e : Env} {s : State} {m : MethodId} {args : Array Value} {below : List Frame} {meth : Method} {c : Code} {D : va_G} {dA : Nat → ClassId} {s0 : Nat} {T : xT} {N : xT} {Z : Nat} {I : xI} {L : xL} {R : xR} {H : Heap} {locs : List Loc} {ls : Array Slot} {kk65 : xI → xL → Nat → Int32 → Int32 → Option (Int32 × xI × xL)} {x0 : Nat} {x2 : Int32} {x3 : Int32} {z0 : Nat} {z1 : Int32} {z2 : Int32} {ro : Int32} {Io : xI} {Lo : xL} (X : Cx D dA s0 p m c cX5_decades 7 s args RX5 meth) (hr : meth.sig.returnType = (some .int)) (hk65 : ∀ {I : xI} {L : xL} {x0 : Nat} {x2 : Int32} {x3 : Int32} {H : Heap} {locs : List Loc} {ls : Array Slot} , kk65 I L x0 x2 x3 = some (ro, Io, Lo) → Iv D dA s0 s T N Z I L R H locs → lv_has ls 7 [(0, .ref x0), (2, .int x2), (3, .int x3)] → W p l e { frames := 9, cells := 0, slots := 0, locals := 213 } s m args below meth c H locs 0 0 (MQ below (xQ D dA s0 (some (.int ro)) T N Z Io Lo R) args s 0 0 (fun q => s0 ≤ q)) (F0 m 65 ls []))  (hf : fX5_decades_b166 nf kk65 T N I L R x0 x2 x3 z0 z1 z2 = some (ro, Io, Lo)) (V : Iv D dA s0 s T N Z I L R H locs) (hl : lv_has ls 7 [(0, .ref x0), (2, .int x2), (3, .int x3)]) : W p l e { frames := 9, cells := 0, slots := 0, locals := 213 } s m args below meth c H locs 0 0 (MQ below (xQ D dA s0 (some (.int ro)) T N Z Io Lo R) args s 0 0 (fun q => s0 ≤ q)) (F0 m 166 ls [.int z2, .int z1, .ref z0]) := by
  have hx := X.1.1
  have hb := X.1.2.1
  unfold fX5_decades_b166 at hf
  replace hf := rA_s hf; obtain ⟨j1, hjj1, htj1, hij1, hf⟩ := hf
  replace hf := nm_s hf; obtain ⟨I2, hI2, hf⟩ := hf
  refine x_iast (pc := 166) X V htj1 hij1 hjj1 hI2 dX5_decades_166 (fun H locs V => ?_)
  refine lv_aload_n (pc := 167) hx hb dX5_decades_167 rfl (lv_at hl 0 rfl) ?_
  replace hf := tg_s hf; obtain ⟨ht7, hf⟩ := hf
  replace hf := b3s hf; obtain ⟨r3, I4, L5, hk_6, hf⟩ := hf
  refine x_callV0 (pc := 168) (As := []) (rest := []) X V (mX5_passIt l D dA s0 hk_6) okX5 ht7 q2021 q2023 qs96 q129 q2024 ⟨rfl, hsX5_passIt⟩ ⟨Nat.le_of_ble_eq_true rfl, Nat.le_of_ble_eq_true rfl⟩ rfl hl.1 rfl (Nat.le_of_ble_eq_true rfl) dX5_decades_168 ⟨Nat.zero_le _, Nat.zero_le _⟩ (fun H locs V => W.eq (g2 := F0 m 171 ls [.int r3]) rfl ?_)
  refine lv_pop (pc := 171) hx hb dX5_decades_171 rfl ?_
  replace hf := nm_s hf; obtain ⟨u8, hu8, hf⟩ := hf
  refine lv_iinc (pc := 172) (v := u8) (lv' := [(3, .int u8), (0, .ref x0), (2, .int x2)]) hx hb dX5_decades_172 hl (k := 2) rfl (by rw [hu8]; rfl) (by decide) rfl (fun ls hl => ?_)
  refine lv_goto (pc := 175) (tgt := 65) hx hb dX5_decades_175 (by decide) ?_
  exact hk65 hf V (lv_sub hl [1, 2, 0] rfl)
set_option maxHeartbeats 400000 in
set_option maxRecDepth 100000 in
theorem wX5_decades_b136 {nf : Nat} {p : Program} {l : Launch} {e : Env} {s : State} {m : MethodId} {args : Array Value} {below : List Frame} {meth : Method} {c : Code} {D : va_G} {dA : Nat → ClassId} {s0 : Nat} {T : xT} {N : xT} {Z : Nat} {I : xI} {L : xL} {R : xR} {H : Heap} {locs : List Loc} {ls : Array Slot} {kk65 : xI → xL → Nat → Int32 → Int32 → Option (Int32 × xI × xL)} {x0 : Nat} {x2 : Int32} {x3 : Int32} {x4 : Int32} {x5 : Int32} {x6 : Int32} {ro : Int32} {Io : xI} {Lo : xL} (X : Cx D dA s0 p m c cX5_decades 7 s args RX5 meth) (hr : meth.sig.returnType = (some .int)) (hk65 : ∀ {I : xI} {L : xL} {x0 : Nat} {x2 : Int32} {x3 : Int32} {H : Heap} {locs : List Loc} {ls : Array Slot} , kk65 I L x0 x2 x3 = some (ro, Io, Lo) → Iv D dA s0 s T N Z I L R H locs → lv_has ls 7 [(0, .ref x0), (2, .int x2), (3, .int x3)] → W p l e { frames := 9, cells := 0, slots := 0, locals := 213 } s m args below meth c H locs 0 0 (MQ below (xQ D dA s0 (some (.int ro)) T N Z Io Lo R) args s 0 0 (fun q => s0 ≤ q)) (F0 m 65 ls []))  (hf : fX5_decades_b136 nf kk65 T N I L R x0 x2 x3 x4 x5 x6 = some (ro, Io, Lo)) (V : Iv D dA s0 s T N Z I L R H locs) (hl : lv_has ls 7 [(0, .ref x0), (2, .int x2), (3, .int x3), (4, .int x4), (5, .int x5), (6, .int x6)]) : W p l e { frames := 9, cells := 0, slots := 0, locals := 213 } s m args below meth c H locs 0 0 (MQ below (xQ D dA s0 (some (.int ro)) T N Z Io Lo R) args s 0 0 (fun q => s0 ≤ q)) (F0 m 136 ls []) := by
  have hx := X.1.1
  have hb := X.1.2.1
  unfold fX5_decades_b136 at hf
  refine lv_aload_n (pc := 136) hx hb dX5_decades_136 rfl (lv_at hl 0 rfl) ?_
  replace hf := tg_s hf; obtain ⟨ht1, hf⟩ := hf
  replace hf := bs hf; obtain ⟨a2, ha2, hf⟩ := hf
  refine x_get (pc := 137) X V okX5 ht1 3 (by decide) q1524 (v := va_rf (R x0 3)) rfl dX5_decades_137 ?_
  refine x_topr ha2 ?_
  refine lv_bipush (pc := 140) (v := (ii 18)) hx hb dX5_decades_140 (by decide) ?_
  refine lv_iload (pc := 142) hx hb dX5_decades_142 (lv_at hl 3 rfl) ?_
  refine lv_iadd (pc := 144) hx hb dX5_decades_144 ?_
  refine lv_iload (pc := 145) hx hb dX5_decades_145 (lv_at hl 5 rfl) ?_
  refine lv_iconst (pc := 147) (v := (ii 2)) hx hb dX5_decades_147 (by decide) ?_
  refine lv_icmp_ne (pc := 148) (tgt := 156) hx hb dX5_decades_148 (by decide) (fun c3 => ?_) (fun c3 => ?_)
  · replace hf := if_f hf c3
    refine lv_aload_n (pc := 156) hx hb dX5_decades_156 rfl (lv_at hl 0 rfl) ?_
    refine x_get (pc := 157) X V okX5 ht1 3 (by decide) q1524 (v := va_rf (R x0 3)) rfl dX5_decades_157 ?_
    refine x_topr ha2 ?_
    refine lv_bipush (pc := 160) (v := (ii 18)) hx hb dX5_decades_160 (by decide) ?_
    refine lv_iload (pc := 162) hx hb dX5_decades_162 (lv_at hl 3 rfl) ?_
    refine lv_iadd (pc := 164) hx hb dX5_decades_164 ?_
    replace hf := rA_s hf; obtain ⟨j4, hjj4, htj4, hij4, hf⟩ := hf
    refine x_iald (pc := 165) X V htj4 hij4 hjj4 dX5_decades_165 ?_
    exact wX5_decades_b166 X hr hk65 hf V (lv_sub hl [0, 1, 2] rfl)
  · replace hf := if_t hf c3
    refine lv_iload (pc := 151) hx hb dX5_decades_151 (lv_at hl 4 rfl) ?_
    refine lv_goto (pc := 153) (tgt := 166) hx hb dX5_decades_153 (by decide) ?_
    exact wX5_decades_b166 X hr hk65 hf V (lv_sub hl [0, 1, 2] rfl)
set_option maxHeartbeats 400000 in
set_option maxRecDepth 100000 in
theorem wX5_decades_b65 {nf : Nat} {p : Program} {l : Launch} {e : Env} {s : State} {m : MethodId} {args : Array Value} {below : List Frame} {meth : Method} {c : Code} {D : va_G} {dA : Nat → ClassId} {s0 : Nat} {T : xT} {N : xT} {Z : Nat} {R : xR}  {ro : Int32} {Io : xI} {Lo : xL} (X : Cx D dA s0 p m c cX5_decades 7 s args RX5 meth) (hr : meth.sig.returnType = (some .int))   (k : Nat) : ∀ {I : xI} {L : xL} {x0 : Nat} {x2 : Int32} {x3 : Int32} {H : Heap} {locs : List Loc} {ls : Array Slot} , fX5_decades_b65 nf T N R k I L x0 x2 x3 = some (ro, Io, Lo) → Iv D dA s0 s T N Z I L R H locs → lv_has ls 7 [(0, .ref x0), (2, .int x2), (3, .int x3)] → W p l e { frames := 9, cells := 0, slots := 0, locals := 213 } s m args below meth c H locs 0 0 (MQ below (xQ D dA s0 (some (.int ro)) T N Z Io Lo R) args s 0 0 (fun q => s0 ≤ q)) (F0 m 65 ls []) := by
  have hx := X.1.1
  have hb := X.1.2.1
  induction k with
  | zero =>
    intro I L x0 x2 x3 H locs ls hf V hl
    exact absurd (show none = some _ from hf) (fun q => nomatch q)
  | succ k ih =>
    intro I L x0 x2 x3 H locs ls hf V hl
    rw [fX5_decades_b65] at hf
    refine lv_iload_n (pc := 65) hx hb dX5_decades_65 rfl (lv_at hl 2 rfl) ?_
    refine lv_iload_n (pc := 66) hx hb dX5_decades_66 rfl (lv_at hl 1 rfl) ?_
    refine lv_icmp_ge (pc := 67) (tgt := 178) hx hb dX5_decades_67 (by decide) (fun c1 => ?_) (fun c1 => ?_)
    · replace hf := if_t hf c1
      refine lv_iconst (pc := 178) (v := (ii 0)) hx hb dX5_decades_178 (by decide) ?_
      refine lv_istore_n (pc := 179) (lv' := [(3, .int (ii 0)), (0, .ref x0), (2, .int x2)]) hx hb dX5_decades_179 rfl hl (by decide) rfl (fun ls hl => ?_)
      exact wX5_decades_b180 X hr nf hf V (lv_sub hl [1, 0] rfl)
    · replace hf := if_f hf c1
      refine lv_aload_n (pc := 70) hx hb dX5_decades_70 rfl (lv_at hl 0 rfl) ?_
      replace hf := tg_s hf; obtain ⟨ht2, hf⟩ := hf
      replace hf := bs hf; obtain ⟨a3, ha3, hf⟩ := hf
      refine x_get (pc := 71) X V okX5 ht2 3 (by decide) q1524 (v := va_rf (R x0 3)) rfl dX5_decades_71 ?_
      refine x_topr ha3 ?_
      refine lv_iconst (pc := 74) (v := (ii 5)) hx hb dX5_decades_74 (by decide) ?_
      replace hf := rA_s hf; obtain ⟨j4, hjj4, htj4, hij4, hf⟩ := hf
      refine x_iald (pc := 75) X V htj4 hij4 hjj4 dX5_decades_75 ?_
      refine lv_sipush (pc := 76) (v := (ii 999)) hx hb dX5_decades_76 (by decide) ?_
      refine lv_icmp_ge (pc := 79) (tgt := 178) hx hb dX5_decades_79 (by decide) (fun c5 => ?_) (fun c5 => ?_)
      · replace hf := if_t hf c5
        refine lv_iconst (pc := 178) (v := (ii 0)) hx hb dX5_decades_178 (by decide) ?_
        refine lv_istore_n (pc := 179) (lv' := [(3, .int (ii 0)), (0, .ref x0), (2, .int x2)]) hx hb dX5_decades_179 rfl hl (by decide) rfl (fun ls hl => ?_)
        exact wX5_decades_b180 X hr nf hf V (lv_sub hl [1, 0] rfl)
      · replace hf := if_f hf c5
        refine lv_aload_n (pc := 82) hx hb dX5_decades_82 rfl (lv_at hl 0 rfl) ?_
        refine lv_aload_n (pc := 83) hx hb dX5_decades_83 rfl (lv_at hl 0 rfl) ?_
        refine x_get (pc := 84) X V okX5 ht2 3 (by decide) q1524 (v := va_rf (R x0 3)) rfl dX5_decades_84 ?_
        refine x_topr ha3 ?_
        refine lv_iconst (pc := 87) (v := (ii 1)) hx hb dX5_decades_87 (by decide) ?_
        replace hf := rA_s hf; obtain ⟨j6, hjj6, htj6, hij6, hf⟩ := hf
        refine x_iald (pc := 88) X V htj6 hij6 hjj6 dX5_decades_88 ?_
        replace hf := b2s hf; obtain ⟨r7, L8, hk_9, hf⟩ := hf
        refine x_callV0 (pc := 89) (As := [.int (I a3 j6)]) (rest := []) X V (mX5_draw l D dA s0 hk_9) okX5 ht2 q2200 q2202 qs117 q129 q2203 ⟨rfl, hsX5_draw⟩ ⟨Nat.le_of_ble_eq_true rfl, Nat.le_of_ble_eq_true rfl⟩ rfl hl.1 rfl (Nat.le_of_ble_eq_true rfl) dX5_decades_89 ⟨Nat.zero_le _, Nat.zero_le _⟩ (fun H locs V => W.eq (g2 := F0 m 92 ls [.int r7]) rfl ?_)
        refine lv_istore (pc := 92) (lv' := [(4, .int r7), (0, .ref x0), (2, .int x2), (3, .int x3)]) hx hb dX5_decades_92 hl (by decide) rfl (fun ls hl => ?_)
        refine lv_aload_n (pc := 94) hx hb dX5_decades_94 rfl (lv_at hl 1 rfl) ?_
        refine lv_bipush (pc := 95) (v := (ii 8)) hx hb dX5_decades_95 (by decide) ?_
        replace hf := b2s hf; obtain ⟨r10, L11, hk_12, hf⟩ := hf
        refine x_callV0 (pc := 97) (As := [.int (ii 8)]) (rest := []) X V (mX5_draw l D dA s0 hk_12) okX5 ht2 q2200 q2202 qs117 q129 q2203 ⟨rfl, hsX5_draw⟩ ⟨Nat.le_of_ble_eq_true rfl, Nat.le_of_ble_eq_true rfl⟩ rfl hl.1 rfl (Nat.le_of_ble_eq_true rfl) dX5_decades_97 ⟨Nat.zero_le _, Nat.zero_le _⟩ (fun H locs V => W.eq (g2 := F0 m 100 ls [.int r10]) rfl ?_)
        refine lv_istore (pc := 100) (lv' := [(5, .int r10), (4, .int r7), (0, .ref x0), (2, .int x2), (3, .int x3)]) hx hb dX5_decades_100 hl (by decide) rfl (fun ls hl => ?_)
        refine lv_aload_n (pc := 102) hx hb dX5_decades_102 rfl (lv_at hl 2 rfl) ?_
        refine lv_iconst (pc := 103) (v := (ii 4)) hx hb dX5_decades_103 (by decide) ?_
        replace hf := b2s hf; obtain ⟨r13, L14, hk_15, hf⟩ := hf
        refine x_callV0 (pc := 104) (As := [.int (ii 4)]) (rest := []) X V (mX5_draw l D dA s0 hk_15) okX5 ht2 q2200 q2202 qs117 q129 q2203 ⟨rfl, hsX5_draw⟩ ⟨Nat.le_of_ble_eq_true rfl, Nat.le_of_ble_eq_true rfl⟩ rfl hl.1 rfl (Nat.le_of_ble_eq_true rfl) dX5_decades_104 ⟨Nat.zero_le _, Nat.zero_le _⟩ (fun H locs V => W.eq (g2 := F0 m 107 ls [.int r13]) rfl ?_)
        refine lv_istore (pc := 107) (lv' := [(6, .int r13), (5, .int r10), (4, .int r7), (0, .ref x0), (2, .int x2), (3, .int x3)]) hx hb dX5_decades_107 hl (by decide) rfl (fun ls hl => ?_)
        refine lv_iload (pc := 109) hx hb dX5_decades_109 (lv_at hl 0 rfl) ?_
        refine lv_iconst (pc := 111) (v := (ii 2)) hx hb dX5_decades_111 (by decide) ?_
        refine lv_icmp_ge (pc := 112) (tgt := 136) hx hb dX5_decades_112 (by decide) (fun c16 => ?_) (fun c16 => ?_)
        · replace hf := if_t hf c16
          exact wX5_decades_b136 X hr ih hf V (lv_sub hl [3, 4, 5, 2, 1, 0] rfl)
        · replace hf := if_f hf c16
          refine lv_aload_n (pc := 115) hx hb dX5_decades_115 rfl (lv_at hl 3 rfl) ?_
          refine x_get (pc := 116) X V okX5 ht2 3 (by decide) q1524 (v := va_rf (R x0 3)) rfl dX5_decades_116 ?_
          refine x_topr ha3 ?_
          refine lv_bipush (pc := 119) (v := (ii 22)) hx hb dX5_decades_119 (by decide) ?_
          refine lv_iload (pc := 121) hx hb dX5_decades_121 (lv_at hl 2 rfl) ?_
          refine lv_iadd (pc := 123) hx hb dX5_decades_123 ?_
          replace hf := rA_s hf; obtain ⟨j17, hjj17, htj17, hij17, hf⟩ := hf
          refine x_iald (pc := 124) X V htj17 hij17 hjj17 dX5_decades_124 ?_
          refine lv_iconst (pc := 125) (v := (-1 : Int32)) hx hb dX5_decades_125 (by decide) ?_
          refine lv_icmp_eq (pc := 126) (tgt := 136) hx hb dX5_decades_126 (by decide) (fun c18 => ?_) (fun c18 => ?_)
          · replace hf := if_t hf c18
            exact wX5_decades_b136 X hr ih hf V (lv_sub hl [3, 4, 5, 2, 1, 0] rfl)
          · replace hf := if_f hf c18
            refine lv_aload_n (pc := 129) hx hb dX5_decades_129 rfl (lv_at hl 3 rfl) ?_
            refine lv_iload (pc := 130) hx hb dX5_decades_130 (lv_at hl 2 rfl) ?_
            replace hf := b3s hf; obtain ⟨r19, I20, L21, hk_22, hf⟩ := hf
            refine x_callV0 (pc := 132) (As := [.int r7]) (rest := []) X V (mX5_cryIt l D dA s0 hk_22) okX5 ht2 q2001 q2003 qs93 q129 q2004 ⟨rfl, hsX5_cryIt⟩ ⟨Nat.le_of_ble_eq_true rfl, Nat.le_of_ble_eq_true rfl⟩ rfl hl.1 rfl (Nat.le_of_ble_eq_true rfl) dX5_decades_132 ⟨Nat.zero_le _, Nat.zero_le _⟩ (fun H locs V => W.eq (g2 := F0 m 135 ls [.int r19]) rfl ?_)
            refine lv_pop (pc := 135) hx hb dX5_decades_135 rfl ?_
            exact wX5_decades_b136 X hr ih hf V (lv_sub hl [3, 4, 5, 2, 1, 0] rfl)
set_option maxHeartbeats 400000 in
set_option maxRecDepth 100000 in
theorem wX5_decades_e {nf : Nat} {p : Program} {l : Launch} {e : Env} {s : State} {m : MethodId} {args : Array Value} {below : List Frame} {meth : Method} {c : Code} {D : va_G} {dA : Nat → ClassId} {s0 : Nat} {T : xT} {N : xT} {Z : Nat} {I : xI} {L : xL} {R : xR} {H : Heap} {locs : List Loc} {ls : Array Slot} {x0 : Nat} {x1 : Int32} {x2 : Int32} {ro : Int32} {Io : xI} {Lo : xL} (X : Cx D dA s0 p m c cX5_decades 7 s args RX5 meth) (hr : meth.sig.returnType = (some .int)) (hf : fX5_decades nf T N I L R x0 x1 x2 = some (ro, Io, Lo)) (V : Iv D dA s0 s T N Z I L R H locs) (hl : lv_has ls 7 [(0, .ref x0), (1, .int x1), (2, .int x2)]) : W p l e { frames := 9, cells := 0, slots := 0, locals := 213 } s m args below meth c H locs 0 0 (MQ below (xQ D dA s0 (some (.int ro)) T N Z Io Lo R) args s 0 0 (fun q => s0 ≤ q)) (F0 m 0 ls []) := by
  have hx := X.1.1
  have hb := X.1.2.1
  unfold fX5_decades at hf
  refine lv_aload_n (pc := 0) hx hb dX5_decades_0 rfl (lv_at hl 0 rfl) ?_
  refine lv_iconst (pc := 1) (v := (ii 0)) hx hb dX5_decades_1 (by decide) ?_
  replace hf := tg_s hf; obtain ⟨ht1, hf⟩ := hf
  replace hf := nm_s hf; obtain ⟨I2, hI2, hf⟩ := hf
  refine x_puti (pc := 2) X V okX5 (by decide) ht1 0 (by decide) q1521 (Or.inl rfl) hI2 (fun _ _ _ => rfl) rfl rfl dX5_decades_2 (fun H locs V => ?_)
  refine lv_iload_n (pc := 5) hx hb dX5_decades_5 rfl (lv_at hl 1 rfl) ?_
  refine lv_i2l (pc := 6) hx hb dX5_decades_6 rfl ?_
  refine lv_lconst (pc := 7) (v := (jj 0)) hx hb dX5_decades_7 (by decide) ?_
  refine lv_ldc2 (pc := 8) (v := (jj 1000000)) hx hb X.1.2.2.2.1 (X.1.2.2.2.2 _ q1866) dX5_decades_8 ?_
  replace hf := bs hf; obtain ⟨r3, hk_4, hf⟩ := hf
  refine x_callS0 (pc := 11) (As := [.long ((x1).toInt64), .long (jj 0), .long (jj 1000000)]) (rest := []) X V (mX5_in l D dA s0 hk_4) q1713 q1714 q129 q1715 hsX5_in ⟨Nat.le_of_ble_eq_true rfl, Nat.le_of_ble_eq_true rfl⟩ rfl hl.1 rfl (Nat.le_of_ble_eq_true rfl) dX5_decades_11 ⟨Nat.zero_le _, Nat.zero_le _⟩ (fun H locs V => W.eq (g2 := F0 m 14 ls [.int r3]) rfl ?_)
  refine lv_if_eq (pc := 14) (tgt := 29) hx hb dX5_decades_14 (by decide) (fun c5 => ?_) (fun c5 => ?_)
  · replace hf := if_t hf c5
    refine lv_aload_n (pc := 29) hx hb dX5_decades_29 rfl (lv_at hl 0 rfl) ?_
    refine lv_iconst (pc := 30) (v := (-1 : Int32)) hx hb dX5_decades_30 (by decide) ?_
    replace hf := b2s hf; obtain ⟨r6, I7, hk_8, hf⟩ := hf
    refine x_callV0 (pc := 31) (As := [.int (-1 : Int32)]) (rest := []) X V (mX5_tell l D dA s0 hk_8) okX5 ht1 q1701 q1703 qs45 q129 q1704 ⟨rfl, hsX5_tell⟩ ⟨Nat.le_of_ble_eq_true rfl, Nat.le_of_ble_eq_true rfl⟩ rfl hl.1 rfl (Nat.le_of_ble_eq_true rfl) dX5_decades_31 ⟨Nat.zero_le _, Nat.zero_le _⟩ (fun H locs V => W.eq (g2 := F0 m 34 ls [.int r6]) rfl ?_)
    cases hf
    exact x_iret (pc := 34) X V hr dX5_decades_34
  · replace hf := if_f hf c5
    refine lv_iload_n (pc := 17) hx hb dX5_decades_17 rfl (lv_at hl 2 rfl) ?_
    refine lv_i2l (pc := 18) hx hb dX5_decades_18 rfl ?_
    refine lv_lconst (pc := 19) (v := (jj 1)) hx hb dX5_decades_19 (by decide) ?_
    refine lv_ldc2 (pc := 20) (v := (jj 60)) hx hb X.1.2.2.2.1 (X.1.2.2.2.2 _ q2029) dX5_decades_20 ?_
    replace hf := bs hf; obtain ⟨r9, hk_10, hf⟩ := hf
    refine x_callS0 (pc := 23) (As := [.long ((x2).toInt64), .long (jj 1), .long (jj 60)]) (rest := []) X V (mX5_in l D dA s0 hk_10) q1713 q1714 q129 q1715 hsX5_in ⟨Nat.le_of_ble_eq_true rfl, Nat.le_of_ble_eq_true rfl⟩ rfl hl.1 rfl (Nat.le_of_ble_eq_true rfl) dX5_decades_23 ⟨Nat.zero_le _, Nat.zero_le _⟩ (fun H locs V => W.eq (g2 := F0 m 26 ls [.int r9]) rfl ?_)
    refine lv_if_ne (pc := 26) (tgt := 35) hx hb dX5_decades_26 (by decide) (fun c11 => ?_) (fun c11 => ?_)
    · replace hf := if_f hf c11
      refine lv_aload_n (pc := 35) hx hb dX5_decades_35 rfl (lv_at hl 0 rfl) ?_
      replace hf := bs hf; obtain ⟨a12, ha12, hf⟩ := hf
      refine x_get (pc := 36) X V okX5 ht1 3 (by decide) q1524 (v := va_rf (R x0 3)) rfl dX5_decades_36 ?_
      refine x_topr ha12 ?_
      refine lv_iconst (pc := 39) (v := (ii 1)) hx hb dX5_decades_39 (by decide) ?_
      replace hf := rA_s hf; obtain ⟨j13, hjj13, htj13, hij13, hf⟩ := hf
      refine x_iald (pc := 40) X V htj13 hij13 hjj13 dX5_decades_40 ?_
      refine lv_if_ne (pc := 41) (tgt := 51) hx hb dX5_decades_41 (by decide) (fun c14 => ?_) (fun c14 => ?_)
      · replace hf := if_f hf c14
        refine lv_aload_n (pc := 51) hx hb dX5_decades_51 rfl (lv_at hl 0 rfl) ?_
        refine lv_bipush (pc := 52) (v := (ii 16)) hx hb dX5_decades_52 (by decide) ?_
        replace hf := bs hf; obtain ⟨I15, hk_16, hf⟩ := hf
        refine x_callV0 (pc := 54) (As := [.int (ii 16)]) (rest := []) X V (mX5_keepAll l D dA s0 hk_16) okX5 ht1 q1981 q1983 qs89 q129 q1984 ⟨rfl, hsX5_keepAll⟩ ⟨Nat.le_of_ble_eq_true rfl, Nat.le_of_ble_eq_true rfl⟩ rfl hl.1 rfl (Nat.le_of_ble_eq_true rfl) dX5_decades_54 ⟨Nat.zero_le _, Nat.zero_le _⟩ (fun H locs V => W.eq (g2 := F0 m 57 ls []) rfl ?_)
        refine lv_aload_n (pc := 57) hx hb dX5_decades_57 rfl (lv_at hl 0 rfl) ?_
        refine lv_iload_n (pc := 58) hx hb dX5_decades_58 rfl (lv_at hl 1 rfl) ?_
        refine lv_i2l (pc := 59) hx hb dX5_decades_59 rfl ?_
        replace hf := nm_s hf; obtain ⟨L17, hL17, hf⟩ := hf
        refine x_putl (pc := 60) X V okX5 (by decide) ht1 54 (by decide) q1575 (Or.inl rfl) hL17 (fun _ _ _ => rfl) rfl rfl dX5_decades_60 (fun H locs V => ?_)
        refine lv_iconst (pc := 63) (v := (ii 0)) hx hb dX5_decades_63 (by decide) ?_
        refine lv_istore_n (pc := 64) (lv' := [(3, .int (ii 0)), (0, .ref x0), (1, .int x1), (2, .int x2)]) hx hb dX5_decades_64 rfl hl (by decide) rfl (fun ls hl => ?_)
        exact wX5_decades_b65 X hr nf hf V (lv_sub hl [1, 3, 0] rfl)
      · replace hf := if_t hf c14
        refine lv_aload_n (pc := 44) hx hb dX5_decades_44 rfl (lv_at hl 0 rfl) ?_
        refine lv_bipush (pc := 45) (v := (-3 : Int32)) hx hb dX5_decades_45 (by decide) ?_
        replace hf := b2s hf; obtain ⟨r18, I19, hk_20, hf⟩ := hf
        refine x_callV0 (pc := 47) (As := [.int (-3 : Int32)]) (rest := []) X V (mX5_tell l D dA s0 hk_20) okX5 ht1 q1701 q1703 qs45 q129 q1704 ⟨rfl, hsX5_tell⟩ ⟨Nat.le_of_ble_eq_true rfl, Nat.le_of_ble_eq_true rfl⟩ rfl hl.1 rfl (Nat.le_of_ble_eq_true rfl) dX5_decades_47 ⟨Nat.zero_le _, Nat.zero_le _⟩ (fun H locs V => W.eq (g2 := F0 m 50 ls [.int r18]) rfl ?_)
        cases hf
        exact x_iret (pc := 50) X V hr dX5_decades_50
    · replace hf := if_t hf c11
      refine lv_aload_n (pc := 29) hx hb dX5_decades_29 rfl (lv_at hl 0 rfl) ?_
      refine lv_iconst (pc := 30) (v := (-1 : Int32)) hx hb dX5_decades_30 (by decide) ?_
      replace hf := b2s hf; obtain ⟨r21, I22, hk_23, hf⟩ := hf
      refine x_callV0 (pc := 31) (As := [.int (-1 : Int32)]) (rest := []) X V (mX5_tell l D dA s0 hk_23) okX5 ht1 q1701 q1703 qs45 q129 q1704 ⟨rfl, hsX5_tell⟩ ⟨Nat.le_of_ble_eq_true rfl, Nat.le_of_ble_eq_true rfl⟩ rfl hl.1 rfl (Nat.le_of_ble_eq_true rfl) dX5_decades_31 ⟨Nat.zero_le _, Nat.zero_le _⟩ (fun H locs V => W.eq (g2 := F0 m 34 ls [.int r21]) rfl ?_)
      cases hf
      exact x_iret (pc := 34) X V hr dX5_decades_34
theorem mX5_decades {nf : Nat} (l : Launch) (D : va_G) (dA : Nat → ClassId) (s0 : Nat) {T : xT} {N : xT} {Z : Nat} {I : xI} {L : xL} {R : xR} {x0 : Nat} {x1 : Int32} {x2 : Int32} {ro : Int32} {Io : xI} {Lo : xL} (hf : fX5_decades nf T N I L R x0 x1 x2 = some (ro, Io, Lo)) : XMet l D dA s0 yX5_decades (ws_ yX5_decades cX5_decades 7 ((some .int))) (9) (213) [.ref x0, .int x1, .int x2] T N Z I L R (some (.int ro)) T N Z Io Lo R 0 0 :=
  x_start (own := RX5) rfl (by decide) (Nat.le_of_ble_eq_true rfl) (lv := [(0, .ref x0), (1, .int x1), (2, .int x2)]) rfl (fun p e s m below meth c ls X hr hini V hl => wX5_decades_e X hr hf V hl)
set_option maxHeartbeats 400000 in
set_option maxRecDepth 100000 in
theorem wX5_drawn_b33 {p : Program} {l : Launch} {e : Env} {s : State} {m : MethodId} {args : Array Value} {below : List Frame} {meth : Method} {c : Code} {D : va_G} {dA : Nat → ClassId} {s0 : Nat} {T : xT} {N : xT} {Z : Nat} {I : xI} {L : xL} {R : xR} {H : Heap} {locs : List Loc} {ls : Array Slot}  {x0 : Nat} {x1 : Int32} {x2 : Int32} {z0 : Int64} {z1 : Int64} {z2 : Int32} {ro : Int32} {Io : xI} (X : Cx D dA s0 p m c cX5_drawn 3 s args RX5 meth) (hr : meth.sig.returnType = (some .int))   (hf : fX5_drawn_b33 T N I R x0 x1 x2 z0 z1 z2 = some (ro, Io)) (V : Iv D dA s0 s T N Z I L R H locs) (hl : lv_has ls 3 [(0, .ref x0), (1, .int x1), (2, .int x2)]) : W p l e { frames := 1, cells := 0, slots := 0, locals := 25 } s m args below meth c H locs 0 0 (MQ below (xQ D dA s0 (some (.int ro)) T N Z Io L R) args s 0 0 (fun q => s0 ≤ q)) (F0 m 33 ls [.int z2, .long z1, .long z0]) := by
  have hx := X.1.1
  have hb := X.1.2.1
  unfold fX5_drawn_b33 at hf
  refine lv_i2l (pc := 33) hx hb dX5_drawn_33 rfl ?_
  refine lv_lconst (pc := 34) (v := (jj 1)) hx hb dX5_drawn_34 (by decide) ?_
  refine lv_lsub (pc := 35) hx hb dX5_drawn_35 ?_
  replace hf := bs hf; obtain ⟨r1, hk_2, hf⟩ := hf
  refine x_callS0 (pc := 36) (As := [.long z0, .long z1, .long (((z2).toInt64) - (jj 1))]) (rest := []) X V (mX5_in l D dA s0 hk_2) q1713 q1714 q129 q1715 hsX5_in ⟨Nat.le_of_ble_eq_true rfl, Nat.le_of_ble_eq_true rfl⟩ rfl hl.1 rfl (Nat.le_of_ble_eq_true rfl) dX5_drawn_36 ⟨Nat.zero_le _, Nat.zero_le _⟩ (fun H locs V => W.eq (g2 := F0 m 39 ls [.int r1]) rfl ?_)
  refine lv_if_ne (pc := 39) (tgt := 44) hx hb dX5_drawn_39 (by decide) (fun c3 => ?_) (fun c3 => ?_)
  · replace hf := if_f hf c3
    refine lv_aload_n (pc := 44) hx hb dX5_drawn_44 rfl (lv_at hl 0 rfl) ?_
    replace hf := tg_s hf; obtain ⟨ht4, hf⟩ := hf
    replace hf := bs hf; obtain ⟨a5, ha5, hf⟩ := hf
    refine x_get (pc := 45) X V okX5 ht4 55 (by decide) q1576 (v := va_rf (R x0 55)) rfl dX5_drawn_45 ?_
    refine x_topr ha5 ?_
    refine lv_iload_n (pc := 48) hx hb dX5_drawn_48 rfl (lv_at hl 2 rfl) ?_
    refine lv_if_ne (pc := 49) (tgt := 57) hx hb dX5_drawn_49 (by decide) (fun c6 => ?_) (fun c6 => ?_)
    · replace hf := if_f hf c6
      refine lv_bipush (pc := 57) (v := (ii 8)) hx hb dX5_drawn_57 (by decide) ?_
      refine lv_iconst (pc := 59) (v := (ii 5)) hx hb dX5_drawn_59 (by decide) ?_
      refine lv_isub (pc := 60) hx hb dX5_drawn_60 ?_
      refine lv_iload_n (pc := 61) hx hb dX5_drawn_61 rfl (lv_at hl 1 rfl) ?_
      refine lv_iadd (pc := 62) hx hb dX5_drawn_62 ?_
      replace hf := rA_s hf; obtain ⟨j7, hjj7, htj7, hij7, hf⟩ := hf
      refine x_iald (pc := 63) X V htj7 hij7 hjj7 dX5_drawn_63 ?_
      cases hf
      exact x_iret (pc := 64) X V hr dX5_drawn_64
    · replace hf := if_t hf c6
      refine lv_bipush (pc := 52) (v := (ii 18)) hx hb dX5_drawn_52 (by decide) ?_
      refine lv_goto (pc := 54) (tgt := 59) hx hb dX5_drawn_54 (by decide) ?_
      refine lv_iconst (pc := 59) (v := (ii 5)) hx hb dX5_drawn_59 (by decide) ?_
      refine lv_isub (pc := 60) hx hb dX5_drawn_60 ?_
      refine lv_iload_n (pc := 61) hx hb dX5_drawn_61 rfl (lv_at hl 1 rfl) ?_
      refine lv_iadd (pc := 62) hx hb dX5_drawn_62 ?_
      replace hf := rA_s hf; obtain ⟨j8, hjj8, htj8, hij8, hf⟩ := hf
      refine x_iald (pc := 63) X V htj8 hij8 hjj8 dX5_drawn_63 ?_
      cases hf
      exact x_iret (pc := 64) X V hr dX5_drawn_64
  · replace hf := if_t hf c3
    refine lv_iconst (pc := 42) (v := (-1 : Int32)) hx hb dX5_drawn_42 (by decide) ?_
    cases hf
    exact x_iret (pc := 43) X V hr dX5_drawn_43
set_option maxHeartbeats 400000 in
set_option maxRecDepth 100000 in
theorem wX5_drawn_e {p : Program} {l : Launch} {e : Env} {s : State} {m : MethodId} {args : Array Value} {below : List Frame} {meth : Method} {c : Code} {D : va_G} {dA : Nat → ClassId} {s0 : Nat} {T : xT} {N : xT} {Z : Nat} {I : xI} {L : xL} {R : xR} {H : Heap} {locs : List Loc} {ls : Array Slot} {x0 : Nat} {x1 : Int32} {x2 : Int32} {ro : Int32} {Io : xI} (X : Cx D dA s0 p m c cX5_drawn 3 s args RX5 meth) (hr : meth.sig.returnType = (some .int)) (hf : fX5_drawn T N I R x0 x1 x2 = some (ro, Io)) (V : Iv D dA s0 s T N Z I L R H locs) (hl : lv_has ls 3 [(0, .ref x0), (1, .int x1), (2, .int x2)]) : W p l e { frames := 1, cells := 0, slots := 0, locals := 25 } s m args below meth c H locs 0 0 (MQ below (xQ D dA s0 (some (.int ro)) T N Z Io L R) args s 0 0 (fun q => s0 ≤ q)) (F0 m 0 ls []) := by
  have hx := X.1.1
  have hb := X.1.2.1
  unfold fX5_drawn at hf
  refine lv_aload_n (pc := 0) hx hb dX5_drawn_0 rfl (lv_at hl 0 rfl) ?_
  refine lv_iconst (pc := 1) (v := (ii 0)) hx hb dX5_drawn_1 (by decide) ?_
  replace hf := tg_s hf; obtain ⟨ht1, hf⟩ := hf
  replace hf := nm_s hf; obtain ⟨I2, hI2, hf⟩ := hf
  refine x_puti (pc := 2) X V okX5 (by decide) ht1 0 (by decide) q1521 (Or.inl rfl) hI2 (fun _ _ _ => rfl) rfl rfl dX5_drawn_2 (fun H locs V => ?_)
  refine lv_iload_n (pc := 5) hx hb dX5_drawn_5 rfl (lv_at hl 2 rfl) ?_
  refine lv_i2l (pc := 6) hx hb dX5_drawn_6 rfl ?_
  refine lv_lconst (pc := 7) (v := (jj 0)) hx hb dX5_drawn_7 (by decide) ?_
  refine lv_lconst (pc := 8) (v := (jj 1)) hx hb dX5_drawn_8 (by decide) ?_
  replace hf := bs hf; obtain ⟨r3, hk_4, hf⟩ := hf
  refine x_callS0 (pc := 9) (As := [.long ((x2).toInt64), .long (jj 0), .long (jj 1)]) (rest := []) X V (mX5_in l D dA s0 hk_4) q1713 q1714 q129 q1715 hsX5_in ⟨Nat.le_of_ble_eq_true rfl, Nat.le_of_ble_eq_true rfl⟩ rfl hl.1 rfl (Nat.le_of_ble_eq_true rfl) dX5_drawn_9 ⟨Nat.zero_le _, Nat.zero_le _⟩ (fun H locs V => W.eq (g2 := F0 m 12 ls [.int r3]) rfl ?_)
  refine lv_if_eq (pc := 12) (tgt := 42) hx hb dX5_drawn_12 (by decide) (fun c5 => ?_) (fun c5 => ?_)
  · replace hf := if_t hf c5
    refine lv_iconst (pc := 42) (v := (-1 : Int32)) hx hb dX5_drawn_42 (by decide) ?_
    cases hf
    exact x_iret (pc := 43) X V hr dX5_drawn_43
  · replace hf := if_f hf c5
    refine lv_iload_n (pc := 15) hx hb dX5_drawn_15 rfl (lv_at hl 1 rfl) ?_
    refine lv_i2l (pc := 16) hx hb dX5_drawn_16 rfl ?_
    refine lv_lconst (pc := 17) (v := (jj 0)) hx hb dX5_drawn_17 (by decide) ?_
    refine lv_iload_n (pc := 18) hx hb dX5_drawn_18 rfl (lv_at hl 2 rfl) ?_
    refine lv_if_ne (pc := 19) (tgt := 29) hx hb dX5_drawn_19 (by decide) (fun c6 => ?_) (fun c6 => ?_)
    · replace hf := if_f hf c6
      refine lv_aload_n (pc := 29) hx hb dX5_drawn_29 rfl (lv_at hl 0 rfl) ?_
      refine x_get (pc := 30) X V okX5 ht1 56 (by decide) q1577 (v := .int (I2 x0 56)) rfl dX5_drawn_30 ?_
      exact wX5_drawn_b33 X hr hf V (lv_sub hl [0, 1, 2] rfl)
    · replace hf := if_t hf c6
      refine lv_aload_n (pc := 22) hx hb dX5_drawn_22 rfl (lv_at hl 0 rfl) ?_
      refine x_get (pc := 23) X V okX5 ht1 57 (by decide) q1578 (v := .int (I2 x0 57)) rfl dX5_drawn_23 ?_
      refine lv_goto (pc := 26) (tgt := 33) hx hb dX5_drawn_26 (by decide) ?_
      exact wX5_drawn_b33 X hr hf V (lv_sub hl [0, 1, 2] rfl)
theorem mX5_drawn (l : Launch) (D : va_G) (dA : Nat → ClassId) (s0 : Nat) {T : xT} {N : xT} {Z : Nat} {I : xI} {L : xL} {R : xR} {x0 : Nat} {x1 : Int32} {x2 : Int32} {ro : Int32} {Io : xI} (hf : fX5_drawn T N I R x0 x1 x2 = some (ro, Io)) : XMet l D dA s0 yX5_drawn (ws_ yX5_drawn cX5_drawn 3 ((some .int))) (1) (25) [.ref x0, .int x1, .int x2] T N Z I L R (some (.int ro)) T N Z Io L R 0 0 :=
  x_start (own := RX5) rfl (by decide) (Nat.le_of_ble_eq_true rfl) (lv := [(0, .ref x0), (1, .int x1), (2, .int x2)]) rfl (fun p e s m below meth c ls X hr hini V hl => wX5_drawn_e X hr hf V hl)
set_option maxHeartbeats 400000 in
set_option maxRecDepth 100000 in
theorem wX5_count_e {nf : Nat} {p : Program} {l : Launch} {e : Env} {s : State} {m : MethodId} {args : Array Value} {below : List Frame} {meth : Method} {c : Code} {D : va_G} {dA : Nat → ClassId} {s0 : Nat} {T : xT} {N : xT} {Z : Nat} {I : xI} {L : xL} {R : xR} {H : Heap} {locs : List Loc} {ls : Array Slot} {x0 : Nat} {x1 : Int32} {ro : Int32} {Io : xI} (X : Cx D dA s0 p m c cX5_count 2 s args RX5 meth) (hr : meth.sig.returnType = (some .int)) (hf : fX5_count nf T N I R x0 x1 = some (ro, Io)) (V : Iv D dA s0 s T N Z I L R H locs) (hl : lv_has ls 2 [(0, .ref x0), (1, .int x1)]) : W p l e { frames := 1, cells := 0, slots := 0, locals := 25 } s m args below meth c H locs 0 0 (MQ below (xQ D dA s0 (some (.int ro)) T N Z Io L R) args s 0 0 (fun q => s0 ≤ q)) (F0 m 0 ls []) := by
  have hx := X.1.1
  have hb := X.1.2.1
  unfold fX5_count at hf
  refine lv_aload_n (pc := 0) hx hb dX5_count_0 rfl (lv_at hl 0 rfl) ?_
  refine lv_iconst (pc := 1) (v := (ii 0)) hx hb dX5_count_1 (by decide) ?_
  replace hf := tg_s hf; obtain ⟨ht1, hf⟩ := hf
  replace hf := nm_s hf; obtain ⟨I2, hI2, hf⟩ := hf
  refine x_puti (pc := 2) X V okX5 (by decide) ht1 0 (by decide) q1521 (Or.inl rfl) hI2 (fun _ _ _ => rfl) rfl rfl dX5_count_2 (fun H locs V => ?_)
  refine lv_iload_n (pc := 5) hx hb dX5_count_5 rfl (lv_at hl 1 rfl) ?_
  by_cases c3 : x1 = (ii 0)
  · replace hf := if_t hf c3
    refine x_tswIn (pc := 6) (tgt := 72) (off := 66) hx hb c3 dX5_count_6 (by decide) (by decide) (by decide) (by decide) ?_
    refine lv_aload_n (pc := 72) hx hb dX5_count_72 rfl (lv_at hl 0 rfl) ?_
    replace hf := bs hf; obtain ⟨a4, ha4, hf⟩ := hf
    refine x_get (pc := 73) X V okX5 ht1 3 (by decide) q1524 (v := va_rf (R x0 3)) rfl dX5_count_73 ?_
    refine x_topr ha4 ?_
    refine lv_iconst (pc := 76) (v := (ii 0)) hx hb dX5_count_76 (by decide) ?_
    replace hf := rA_s hf; obtain ⟨j5, hjj5, htj5, hij5, hf⟩ := hf
    refine x_iald (pc := 77) X V htj5 hij5 hjj5 dX5_count_77 ?_
    cases hf
    exact x_iret (pc := 78) X V hr dX5_count_78
  replace hf := if_f hf c3
  by_cases c6 : x1 = (ii 1)
  · replace hf := if_t hf c6
    refine x_tswIn (pc := 6) (tgt := 79) (off := 73) hx hb c6 dX5_count_6 (by decide) (by decide) (by decide) (by decide) ?_
    refine lv_aload_n (pc := 79) hx hb dX5_count_79 rfl (lv_at hl 0 rfl) ?_
    replace hf := bs hf; obtain ⟨a7, ha7, hf⟩ := hf
    refine x_get (pc := 80) X V okX5 ht1 3 (by decide) q1524 (v := va_rf (R x0 3)) rfl dX5_count_80 ?_
    refine x_topr ha7 ?_
    refine lv_iconst (pc := 83) (v := (ii 1)) hx hb dX5_count_83 (by decide) ?_
    replace hf := rA_s hf; obtain ⟨j8, hjj8, htj8, hij8, hf⟩ := hf
    refine x_iald (pc := 84) X V htj8 hij8 hjj8 dX5_count_84 ?_
    cases hf
    exact x_iret (pc := 85) X V hr dX5_count_85
  replace hf := if_f hf c6
  by_cases c9 : x1 = (ii 2)
  · replace hf := if_t hf c9
    refine x_tswIn (pc := 6) (tgt := 86) (off := 80) hx hb c9 dX5_count_6 (by decide) (by decide) (by decide) (by decide) ?_
    refine lv_aload_n (pc := 86) hx hb dX5_count_86 rfl (lv_at hl 0 rfl) ?_
    replace hf := bs hf; obtain ⟨r10, hk_11, hf⟩ := hf
    refine x_callV0 (pc := 87) (As := []) (rest := []) X V (mX5_namedOnes l D dA s0 hk_11) okX5 ht1 q2176 q2178 qs113 q129 q2179 ⟨rfl, hsX5_namedOnes⟩ ⟨Nat.le_of_ble_eq_true rfl, Nat.le_of_ble_eq_true rfl⟩ rfl hl.1 rfl (Nat.le_of_ble_eq_true rfl) dX5_count_87 ⟨Nat.zero_le _, Nat.zero_le _⟩ (fun H locs V => W.eq (g2 := F0 m 90 ls [.int r10]) rfl ?_)
    cases hf
    exact x_iret (pc := 90) X V hr dX5_count_90
  replace hf := if_f hf c9
  by_cases c12 : x1 = (ii 3)
  · replace hf := if_t hf c12
    refine x_tswIn (pc := 6) (tgt := 91) (off := 85) hx hb c12 dX5_count_6 (by decide) (by decide) (by decide) (by decide) ?_
    refine lv_aload_n (pc := 91) hx hb dX5_count_91 rfl (lv_at hl 0 rfl) ?_
    replace hf := bs hf; obtain ⟨a13, ha13, hf⟩ := hf
    refine x_get (pc := 92) X V okX5 ht1 3 (by decide) q1524 (v := va_rf (R x0 3)) rfl dX5_count_92 ?_
    refine x_topr ha13 ?_
    refine lv_iconst (pc := 95) (v := (ii 2)) hx hb dX5_count_95 (by decide) ?_
    replace hf := rA_s hf; obtain ⟨j14, hjj14, htj14, hij14, hf⟩ := hf
    refine x_iald (pc := 96) X V htj14 hij14 hjj14 dX5_count_96 ?_
    cases hf
    exact x_iret (pc := 97) X V hr dX5_count_97
  replace hf := if_f hf c12
  by_cases c15 : x1 = (ii 4)
  · replace hf := if_t hf c15
    refine x_tswIn (pc := 6) (tgt := 98) (off := 92) hx hb c15 dX5_count_6 (by decide) (by decide) (by decide) (by decide) ?_
    refine lv_aload_n (pc := 98) hx hb dX5_count_98 rfl (lv_at hl 0 rfl) ?_
    replace hf := bs hf; obtain ⟨a16, ha16, hf⟩ := hf
    refine x_get (pc := 99) X V okX5 ht1 3 (by decide) q1524 (v := va_rf (R x0 3)) rfl dX5_count_99 ?_
    refine x_topr ha16 ?_
    refine lv_iconst (pc := 102) (v := (ii 3)) hx hb dX5_count_102 (by decide) ?_
    replace hf := rA_s hf; obtain ⟨j17, hjj17, htj17, hij17, hf⟩ := hf
    refine x_iald (pc := 103) X V htj17 hij17 hjj17 dX5_count_103 ?_
    cases hf
    exact x_iret (pc := 104) X V hr dX5_count_104
  replace hf := if_f hf c15
  by_cases c18 : x1 = (ii 5)
  · replace hf := if_t hf c18
    refine x_tswIn (pc := 6) (tgt := 105) (off := 99) hx hb c18 dX5_count_6 (by decide) (by decide) (by decide) (by decide) ?_
    refine lv_aload_n (pc := 105) hx hb dX5_count_105 rfl (lv_at hl 0 rfl) ?_
    refine x_get (pc := 106) X V okX5 ht1 8 (by decide) q1529 (v := .int (I2 x0 8)) rfl dX5_count_106 ?_
    cases hf
    exact x_iret (pc := 109) X V hr dX5_count_109
  replace hf := if_f hf c18
  by_cases c19 : x1 = (ii 6)
  · replace hf := if_t hf c19
    refine x_tswIn (pc := 6) (tgt := 110) (off := 104) hx hb c19 dX5_count_6 (by decide) (by decide) (by decide) (by decide) ?_
    refine lv_aload_n (pc := 110) hx hb dX5_count_110 rfl (lv_at hl 0 rfl) ?_
    refine x_get (pc := 111) X V okX5 ht1 13 (by decide) q1534 (v := .int (I2 x0 13)) rfl dX5_count_111 ?_
    cases hf
    exact x_iret (pc := 114) X V hr dX5_count_114
  replace hf := if_f hf c19
  by_cases c20 : x1 = (ii 7)
  · replace hf := if_t hf c20
    refine x_tswIn (pc := 6) (tgt := 115) (off := 109) hx hb c20 dX5_count_6 (by decide) (by decide) (by decide) (by decide) ?_
    refine lv_aload_n (pc := 115) hx hb dX5_count_115 rfl (lv_at hl 0 rfl) ?_
    replace hf := bs hf; obtain ⟨a21, ha21, hf⟩ := hf
    refine x_get (pc := 116) X V okX5 ht1 2 (by decide) q1523 (v := va_rf (R x0 2)) rfl dX5_count_116 ?_
    refine x_topr ha21 ?_
    refine lv_iconst (pc := 119) (v := (ii 1)) hx hb dX5_count_119 (by decide) ?_
    replace hf := rA_s hf; obtain ⟨j22, hjj22, htj22, hij22, hf⟩ := hf
    refine x_iald (pc := 120) X V htj22 hij22 hjj22 dX5_count_120 ?_
    cases hf
    exact x_iret (pc := 121) X V hr dX5_count_121
  replace hf := if_f hf c20
  by_cases c23 : x1 = (ii 8)
  · replace hf := if_t hf c23
    refine x_tswIn (pc := 6) (tgt := 122) (off := 116) hx hb c23 dX5_count_6 (by decide) (by decide) (by decide) (by decide) ?_
    refine lv_aload_n (pc := 122) hx hb dX5_count_122 rfl (lv_at hl 0 rfl) ?_
    replace hf := bs hf; obtain ⟨a24, ha24, hf⟩ := hf
    refine x_get (pc := 123) X V okX5 ht1 2 (by decide) q1523 (v := va_rf (R x0 2)) rfl dX5_count_123 ?_
    refine x_topr ha24 ?_
    refine lv_iconst (pc := 126) (v := (ii 2)) hx hb dX5_count_126 (by decide) ?_
    replace hf := rA_s hf; obtain ⟨j25, hjj25, htj25, hij25, hf⟩ := hf
    refine x_iald (pc := 127) X V htj25 hij25 hjj25 dX5_count_127 ?_
    cases hf
    exact x_iret (pc := 128) X V hr dX5_count_128
  replace hf := if_f hf c23
  by_cases c26 : x1 = (ii 9)
  · replace hf := if_t hf c26
    refine x_tswIn (pc := 6) (tgt := 129) (off := 123) hx hb c26 dX5_count_6 (by decide) (by decide) (by decide) (by decide) ?_
    refine lv_aload_n (pc := 129) hx hb dX5_count_129 rfl (lv_at hl 0 rfl) ?_
    replace hf := bs hf; obtain ⟨a27, ha27, hf⟩ := hf
    refine x_get (pc := 130) X V okX5 ht1 2 (by decide) q1523 (v := va_rf (R x0 2)) rfl dX5_count_130 ?_
    refine x_topr ha27 ?_
    refine lv_iconst (pc := 133) (v := (ii 3)) hx hb dX5_count_133 (by decide) ?_
    replace hf := rA_s hf; obtain ⟨j28, hjj28, htj28, hij28, hf⟩ := hf
    refine x_iald (pc := 134) X V htj28 hij28 hjj28 dX5_count_134 ?_
    cases hf
    exact x_iret (pc := 135) X V hr dX5_count_135
  replace hf := if_f hf c26
  by_cases c29 : x1 = (ii 10)
  · replace hf := if_t hf c29
    refine x_tswIn (pc := 6) (tgt := 136) (off := 130) hx hb c29 dX5_count_6 (by decide) (by decide) (by decide) (by decide) ?_
    refine lv_aload_n (pc := 136) hx hb dX5_count_136 rfl (lv_at hl 0 rfl) ?_
    replace hf := bs hf; obtain ⟨a30, ha30, hf⟩ := hf
    refine x_get (pc := 137) X V okX5 ht1 2 (by decide) q1523 (v := va_rf (R x0 2)) rfl dX5_count_137 ?_
    refine x_topr ha30 ?_
    refine lv_iconst (pc := 140) (v := (ii 5)) hx hb dX5_count_140 (by decide) ?_
    replace hf := rA_s hf; obtain ⟨j31, hjj31, htj31, hij31, hf⟩ := hf
    refine x_iald (pc := 141) X V htj31 hij31 hjj31 dX5_count_141 ?_
    cases hf
    exact x_iret (pc := 142) X V hr dX5_count_142
  replace hf := if_f hf c29
  by_cases c32 : x1 = (ii 11)
  · replace hf := if_t hf c32
    refine x_tswIn (pc := 6) (tgt := 143) (off := 137) hx hb c32 dX5_count_6 (by decide) (by decide) (by decide) (by decide) ?_
    refine lv_aload_n (pc := 143) hx hb dX5_count_143 rfl (lv_at hl 0 rfl) ?_
    replace hf := bs hf; obtain ⟨a33, ha33, hf⟩ := hf
    refine x_get (pc := 144) X V okX5 ht1 2 (by decide) q1523 (v := va_rf (R x0 2)) rfl dX5_count_144 ?_
    refine x_topr ha33 ?_
    refine lv_bipush (pc := 147) (v := (ii 6)) hx hb dX5_count_147 (by decide) ?_
    replace hf := rA_s hf; obtain ⟨j34, hjj34, htj34, hij34, hf⟩ := hf
    refine x_iald (pc := 149) X V htj34 hij34 hjj34 dX5_count_149 ?_
    cases hf
    exact x_iret (pc := 150) X V hr dX5_count_150
  replace hf := if_f hf c32
  by_cases c35 : x1 = (ii 12)
  · replace hf := if_t hf c35
    refine x_tswIn (pc := 6) (tgt := 151) (off := 145) hx hb c35 dX5_count_6 (by decide) (by decide) (by decide) (by decide) ?_
    refine lv_aload_n (pc := 151) hx hb dX5_count_151 rfl (lv_at hl 0 rfl) ?_
    replace hf := bs hf; obtain ⟨a36, ha36, hf⟩ := hf
    refine x_get (pc := 152) X V okX5 ht1 3 (by decide) q1524 (v := va_rf (R x0 3)) rfl dX5_count_152 ?_
    refine x_topr ha36 ?_
    refine lv_iconst (pc := 155) (v := (ii 4)) hx hb dX5_count_155 (by decide) ?_
    replace hf := rA_s hf; obtain ⟨j37, hjj37, htj37, hij37, hf⟩ := hf
    refine x_iald (pc := 156) X V htj37 hij37 hjj37 dX5_count_156 ?_
    cases hf
    exact x_iret (pc := 157) X V hr dX5_count_157
  replace hf := if_f hf c35
  refine lv_tableOut (pc := 6) (tgt := 158) hx hb dX5_count_6 (by have qc3 := lv_neT c3 (a := 0) (by decide); have qc6 := lv_neT c6 (a := 1) (by decide); have qc9 := lv_neT c9 (a := 2) (by decide); have qc12 := lv_neT c12 (a := 3) (by decide); have qc15 := lv_neT c15 (a := 4) (by decide); have qc18 := lv_neT c18 (a := 5) (by decide); have qc19 := lv_neT c19 (a := 6) (by decide); have qc20 := lv_neT c20 (a := 7) (by decide); have qc23 := lv_neT c23 (a := 8) (by decide); have qc26 := lv_neT c26 (a := 9) (by decide); have qc29 := lv_neT c29 (a := 10) (by decide); have qc32 := lv_neT c32 (a := 11) (by decide); have qc35 := lv_neT c35 (a := 12) (by decide); omega) (by decide) ?_
  refine lv_iload_n (pc := 158) hx hb dX5_count_158 rfl (lv_at hl 1 rfl) ?_
  refine lv_i2l (pc := 159) hx hb dX5_count_159 rfl ?_
  refine lv_ldc2 (pc := 160) (v := (jj 13)) hx hb X.1.2.2.2.1 (X.1.2.2.2.2 _ q2215) dX5_count_160 ?_
  refine lv_ldc2 (pc := 163) (v := (jj 15)) hx hb X.1.2.2.2.1 (X.1.2.2.2.2 _ q2216) dX5_count_163 ?_
  replace hf := bs hf; obtain ⟨r38, hk_39, hf⟩ := hf
  refine x_callS0 (pc := 166) (As := [.long ((x1).toInt64), .long (jj 13), .long (jj 15)]) (rest := []) X V (mX5_in l D dA s0 hk_39) q1713 q1714 q129 q1715 hsX5_in ⟨Nat.le_of_ble_eq_true rfl, Nat.le_of_ble_eq_true rfl⟩ rfl hl.1 rfl (Nat.le_of_ble_eq_true rfl) dX5_count_166 ⟨Nat.zero_le _, Nat.zero_le _⟩ (fun H locs V => W.eq (g2 := F0 m 169 ls [.int r38]) rfl ?_)
  refine lv_if_eq (pc := 169) (tgt := 186) hx hb dX5_count_169 (by decide) (fun c40 => ?_) (fun c40 => ?_)
  · replace hf := if_t hf c40
    refine lv_iconst (pc := 186) (v := (-1 : Int32)) hx hb dX5_count_186 (by decide) ?_
    cases hf
    exact x_iret (pc := 187) X V hr dX5_count_187
  · replace hf := if_f hf c40
    refine lv_aload_n (pc := 172) hx hb dX5_count_172 rfl (lv_at hl 0 rfl) ?_
    replace hf := bs hf; obtain ⟨a41, ha41, hf⟩ := hf
    refine x_get (pc := 173) X V okX5 ht1 3 (by decide) q1524 (v := va_rf (R x0 3)) rfl dX5_count_173 ?_
    refine x_topr ha41 ?_
    refine lv_iconst (pc := 176) (v := (ii 5)) hx hb dX5_count_176 (by decide) ?_
    refine lv_iload_n (pc := 177) hx hb dX5_count_177 rfl (lv_at hl 1 rfl) ?_
    refine lv_iadd (pc := 178) hx hb dX5_count_178 ?_
    refine lv_bipush (pc := 179) (v := (ii 13)) hx hb dX5_count_179 (by decide) ?_
    refine lv_isub (pc := 181) hx hb dX5_count_181 ?_
    replace hf := rA_s hf; obtain ⟨j42, hjj42, htj42, hij42, hf⟩ := hf
    refine x_iald (pc := 182) X V htj42 hij42 hjj42 dX5_count_182 ?_
    refine lv_goto (pc := 183) (tgt := 187) hx hb dX5_count_183 (by decide) ?_
    cases hf
    exact x_iret (pc := 187) X V hr dX5_count_187
theorem mX5_count {nf : Nat} (l : Launch) (D : va_G) (dA : Nat → ClassId) (s0 : Nat) {T : xT} {N : xT} {Z : Nat} {I : xI} {L : xL} {R : xR} {x0 : Nat} {x1 : Int32} {ro : Int32} {Io : xI} (hf : fX5_count nf T N I R x0 x1 = some (ro, Io)) : XMet l D dA s0 yX5_count (ws_ yX5_count cX5_count 2 ((some .int))) (1) (25) [.ref x0, .int x1] T N Z I L R (some (.int ro)) T N Z Io L R 0 0 :=
  x_start (own := RX5) rfl (by decide) (Nat.le_of_ble_eq_true rfl) (lv := [(0, .ref x0), (1, .int x1)]) rfl (fun p e s m below meth c ls X hr hini V hl => wX5_count_e X hr hf V hl)
set_option maxHeartbeats 400000 in
set_option maxRecDepth 100000 in
theorem wX5_status_e {p : Program} {l : Launch} {e : Env} {s : State} {m : MethodId} {args : Array Value} {below : List Frame} {meth : Method} {c : Code} {D : va_G} {dA : Nat → ClassId} {s0 : Nat} {T : xT} {N : xT} {Z : Nat} {I : xI} {L : xL} {R : xR} {H : Heap} {locs : List Loc} {ls : Array Slot} {x0 : Nat} {ro : Int32} {Io : xI} (X : Cx D dA s0 p m c cX5_status 1 s args RX5 meth) (hr : meth.sig.returnType = (some .int)) (hf : fX5_status T I x0 = some (ro, Io)) (V : Iv D dA s0 s T N Z I L R H locs) (hl : lv_has ls 1 [(0, .ref x0)]) : W p l e { frames := 0, cells := 0, slots := 0, locals := 0 } s m args below meth c H locs 0 0 (MQ below (xQ D dA s0 (some (.int ro)) T N Z Io L R) args s 0 0 (fun q => s0 ≤ q)) (F0 m 0 ls []) := by
  have hx := X.1.1
  have hb := X.1.2.1
  unfold fX5_status at hf
  refine lv_aload_n (pc := 0) hx hb dX5_status_0 rfl (lv_at hl 0 rfl) ?_
  refine lv_iconst (pc := 1) (v := (ii 0)) hx hb dX5_status_1 (by decide) ?_
  replace hf := tg_s hf; obtain ⟨ht1, hf⟩ := hf
  replace hf := nm_s hf; obtain ⟨I2, hI2, hf⟩ := hf
  refine x_puti (pc := 2) X V okX5 (by decide) ht1 0 (by decide) q1521 (Or.inl rfl) hI2 (fun _ _ _ => rfl) rfl rfl dX5_status_2 (fun H locs V => ?_)
  refine lv_aload_n (pc := 5) hx hb dX5_status_5 rfl (lv_at hl 0 rfl) ?_
  refine x_get (pc := 6) X V okX5 ht1 1 (by decide) q1522 (v := .int (I2 x0 1)) rfl dX5_status_6 ?_
  cases hf
  exact x_iret (pc := 9) X V hr dX5_status_9
theorem mX5_status (l : Launch) (D : va_G) (dA : Nat → ClassId) (s0 : Nat) {T : xT} {N : xT} {Z : Nat} {I : xI} {L : xL} {R : xR} {x0 : Nat} {ro : Int32} {Io : xI} (hf : fX5_status T I x0 = some (ro, Io)) : XMet l D dA s0 yX5_status (ws_ yX5_status cX5_status 1 ((some .int))) (0) (0) [.ref x0] T N Z I L R (some (.int ro)) T N Z Io L R 0 0 :=
  x_start (own := RX5) rfl (by decide) (Nat.le_of_ble_eq_true rfl) (lv := [(0, .ref x0)]) rfl (fun p e s m below meth c ls X hr hini V hl => wX5_status_e X hr hf V hl)
