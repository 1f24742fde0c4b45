set_option maxHeartbeats 400000 in
set_option maxRecDepth 100000 in
theorem zX1_takes_b95 {nf : Nat} {T : xT} {N : xT} {Z : Nat} {S : Nat} {I : xI} {R : xR}  {x0 : Nat} {x1 : Nat} {z0 : Int32} {To : xT} {No : xT} {Zo : Nat} {So : Nat} {Io : xI} {Ro : xR}  (hf : fX1_takes_b95 nf T N Z S I R x0 x1 z0 = some (To, No, Zo, So, Io, Ro)) : Z ≤ Zo ∧ S ≤ So := by
  unfold fX1_takes_b95 at hf
  replace hf := tg_s hf; obtain ⟨ht1, hf⟩ := hf
  replace hf := tg_s hf; obtain ⟨ht2, hf⟩ := hf
  replace hf := nm_s hf; obtain ⟨I3, hI3, hf⟩ := hf
  replace hf := nm_s hf; obtain ⟨I4, hI4, hf⟩ := hf
  replace hf := nm_s hf; obtain ⟨I5, hI5, hf⟩ := hf
  replace hf := nm_s hf; obtain ⟨I6, hI6, hf⟩ := hf
  replace hf := nm_s hf; obtain ⟨I7, hI7, hf⟩ := hf
  replace hf := nm_s hf; obtain ⟨I8, hI8, hf⟩ := hf
  cases hf
  exact ⟨Nat.le_refl _, Nat.le_refl _⟩
set_option maxHeartbeats 400000 in
set_option maxRecDepth 100000 in
theorem wX1_takes_b95 {nf : Nat} {kc ks : Nat} {cells slots : Nat} {p : Program} {l : Launch} {e : Env} {s : State} {m : MethodId} {args : Array Value} {below : List Frame} {meth : Method} {c : Code} {D : va_G} {dA : Nat → ClassId} {s0 : Nat} {T : xT} {N : xT} {Z : Nat} {S : Nat} {I : xI} {L : xL} {R : xR} {H : Heap} {locs : List Loc} {ls : Array Slot}  {x0 : Nat} {x1 : Nat} {z0 : Int32} {To : xT} {No : xT} {Zo : Nat} {So : Nat} {Io : xI} {Ro : xR} (X : Cx D dA s0 p m c cX1_takes 2 s args RX1 meth) (hr : meth.sig.returnType = none)   (hf : fX1_takes_b95 nf T N Z S I R x0 x1 z0 = some (To, No, Zo, So, Io, Ro)) (V : Iv D dA s0 s T N Z I L R H locs) (hl : lv_has ls 2 [(0, .ref x0), (1, .ref x1)]) (hB : cells + (Zo - Z) ≤ kc ∧ slots + (So - S) ≤ ks) : W p l e { frames := 5, cells := kc, slots := ks, locals := 152 } s m args below meth c H locs cells slots (MQ below (xQ D dA s0 none To No Zo Io L Ro) args s kc ks (fun q => s0 ≤ q)) (F0 m 95 ls [.int z0]) := by
  have hx := X.1.1
  have hb := X.1.2.1
  unfold fX1_takes_b95 at hf
  refine lv_pop (pc := 95) hx hb dX1_takes_95 rfl ?_
  refine lv_aload_n (pc := 96) hx hb dX1_takes_96 rfl (lv_at hl 0 rfl) ?_
  refine lv_aload_n (pc := 97) hx hb dX1_takes_97 rfl (lv_at hl 1 rfl) ?_
  replace hf := tg_s hf; obtain ⟨ht1, hf⟩ := hf
  refine x_get (pc := 98) X V okX1 ht1 8 (by decide) q237 (v := .int (I x1 8)) rfl dX1_takes_98 ?_
  replace hf := tg_s hf; obtain ⟨ht2, hf⟩ := hf
  replace hf := nm_s hf; obtain ⟨I3, hI3, hf⟩ := hf
  refine x_puti (pc := 101) X V okX1 (by decide) ht2 8 (by decide) q237 (Or.inl rfl) hI3 (fun _ _ _ => rfl) rfl rfl dX1_takes_101 (fun H locs V => ?_)
  refine lv_aload_n (pc := 104) hx hb dX1_takes_104 rfl (lv_at hl 0 rfl) ?_
  refine lv_aload_n (pc := 105) hx hb dX1_takes_105 rfl (lv_at hl 1 rfl) ?_
  refine x_get (pc := 106) X V okX1 ht1 9 (by decide) q239 (v := .int (I3 x1 9)) rfl dX1_takes_106 ?_
  replace hf := nm_s hf; obtain ⟨I4, hI4, hf⟩ := hf
  refine x_puti (pc := 109) X V okX1 (by decide) ht2 9 (by decide) q239 (Or.inl rfl) hI4 (fun _ _ _ => rfl) rfl rfl dX1_takes_109 (fun H locs V => ?_)
  refine lv_aload_n (pc := 112) hx hb dX1_takes_112 rfl (lv_at hl 0 rfl) ?_
  refine lv_aload_n (pc := 113) hx hb dX1_takes_113 rfl (lv_at hl 1 rfl) ?_
  refine x_get (pc := 114) X V okX1 ht1 10 (by decide) q241 (v := .int (I4 x1 10)) rfl dX1_takes_114 ?_
  replace hf := nm_s hf; obtain ⟨I5, hI5, hf⟩ := hf
  refine x_puti (pc := 117) X V okX1 (by decide) ht2 10 (by decide) q241 (Or.inl rfl) hI5 (fun _ _ _ => rfl) rfl rfl dX1_takes_117 (fun H locs V => ?_)
  refine lv_aload_n (pc := 120) hx hb dX1_takes_120 rfl (lv_at hl 0 rfl) ?_
  refine lv_aload_n (pc := 121) hx hb dX1_takes_121 rfl (lv_at hl 1 rfl) ?_
  refine x_get (pc := 122) X V okX1 ht1 11 (by decide) q243 (v := .int (I5 x1 11)) rfl dX1_takes_122 ?_
  replace hf := nm_s hf; obtain ⟨I6, hI6, hf⟩ := hf
  refine x_puti (pc := 125) X V okX1 (by decide) ht2 11 (by decide) q243 (Or.inl rfl) hI6 (fun _ _ _ => rfl) rfl rfl dX1_takes_125 (fun H locs V => ?_)
  refine lv_aload_n (pc := 128) hx hb dX1_takes_128 rfl (lv_at hl 0 rfl) ?_
  refine lv_aload_n (pc := 129) hx hb dX1_takes_129 rfl (lv_at hl 1 rfl) ?_
  refine x_get (pc := 130) X V okX1 ht1 12 (by decide) q245 (v := .int (I6 x1 12)) rfl dX1_takes_130 ?_
  replace hf := nm_s hf; obtain ⟨I7, hI7, hf⟩ := hf
  refine x_puti (pc := 133) X V okX1 (by decide) ht2 12 (by decide) q245 (Or.inl rfl) hI7 (fun _ _ _ => rfl) rfl rfl dX1_takes_133 (fun H locs V => ?_)
  refine lv_aload_n (pc := 136) hx hb dX1_takes_136 rfl (lv_at hl 0 rfl) ?_
  refine lv_aload_n (pc := 137) hx hb dX1_takes_137 rfl (lv_at hl 1 rfl) ?_
  refine x_get (pc := 138) X V okX1 ht1 13 (by decide) q247 (v := .int (I7 x1 13)) rfl dX1_takes_138 ?_
  replace hf := nm_s hf; obtain ⟨I8, hI8, hf⟩ := hf
  refine x_puti (pc := 141) X V okX1 (by decide) ht2 13 (by decide) q247 (Or.inl rfl) hI8 (fun _ _ _ => rfl) rfl rfl dX1_takes_141 (fun H locs V => ?_)
  cases hf
  exact x_vretW (pc := 144) X V hr (by omega) (by omega) dX1_takes_144
set_option maxHeartbeats 400000 in
set_option maxRecDepth 100000 in
theorem zX1_takes {nf : Nat} {T : xT} {N : xT} {Z : Nat} {S : Nat} {I : xI} {R : xR} {x0 : Nat} {x1 : Nat} {To : xT} {No : xT} {Zo : Nat} {So : Nat} {Io : xI} {Ro : xR} (hf : fX1_takes nf T N Z S I R x0 x1 = some (To, No, Zo, So, Io, Ro)) : Z ≤ Zo ∧ S ≤ So := by
  unfold fX1_takes at hf
  replace hf := tg_s hf; obtain ⟨ht1, hf⟩ := hf
  replace hf := bs hf; obtain ⟨a2, ha2, hf⟩ := hf
  replace hf := tg_s hf; obtain ⟨ht3, hf⟩ := hf
  replace hf := bs hf; obtain ⟨a4, ha4, hf⟩ := hf
  replace hf := tg_s hf; obtain ⟨ht7, hf⟩ := hf
  replace hf := bs hf; obtain ⟨I5, hk_6, hf⟩ := hf
  replace hf := bs hf; obtain ⟨a8, ha8, hf⟩ := hf
  replace hf := bs hf; obtain ⟨a9, ha9, hf⟩ := hf
  replace hf := bs hf; obtain ⟨I10, hk_11, hf⟩ := hf
  replace hf := bs hf; obtain ⟨a12, ha12, hf⟩ := hf
  replace hf := bs hf; obtain ⟨a13, ha13, hf⟩ := hf
  replace hf := bs hf; obtain ⟨I14, hk_15, hf⟩ := hf
  replace hf := bs hf; obtain ⟨a16, ha16, hf⟩ := hf
  replace hf := bs hf; obtain ⟨a17, ha17, hf⟩ := hf
  replace hf := bs hf; obtain ⟨I18, hk_19, hf⟩ := hf
  replace hf := bs hf; obtain ⟨a20, ha20, hf⟩ := hf
  replace hf := bs hf; obtain ⟨a21, ha21, hf⟩ := hf
  replace hf := bs hf; obtain ⟨I22, hk_23, hf⟩ := hf
  replace hf := bs hf; obtain ⟨a24, ha24, hf⟩ := hf
  replace hf := bs hf; obtain ⟨a25, ha25, hf⟩ := hf
  replace hf := bs hf; obtain ⟨I26, hk_27, hf⟩ := hf
  replace hf := bs hf; obtain ⟨a28, ha28, hf⟩ := hf
  replace hf := bs hf; obtain ⟨a29, ha29, hf⟩ := hf
  replace hf := bs hf; obtain ⟨I30, hk_31, hf⟩ := hf
  replace hf := bs hf; obtain ⟨a32, ha32, hf⟩ := hf
  replace hf := tg_s hf; obtain ⟨ht36, hf⟩ := hf
  replace hf := b2s hf; obtain ⟨I33, R34, hk_35, hf⟩ := hf
  replace hf := bs hf; obtain ⟨a37, ha37, hf⟩ := hf
  replace hf := bs hf; obtain ⟨a38, ha38, hf⟩ := hf
  replace hf := tg_s hf; obtain ⟨ht47, hf⟩ := hf
  replace hf := b7s hf; obtain ⟨r39, T40, N41, Z42, S43, I44, R45, hk_46, hf⟩ := hf
  have hm_hk_46 := zJ2_addAll hk_46
  have hm := zX1_takes_b95 hf
  exact ⟨by omega, by omega⟩
set_option maxHeartbeats 400000 in
set_option maxRecDepth 100000 in
theorem wX1_takes_e {nf : Nat} {kc ks : Nat} {cells slots : Nat} {p : Program} {l : Launch} {e : Env} {s : State} {m : MethodId} {args : Array Value} {below : List Frame} {meth : Method} {c : Code} {D : va_G} {dA : Nat → ClassId} {s0 : Nat} {T : xT} {N : xT} {Z : Nat} {S : Nat} {I : xI} {L : xL} {R : xR} {H : Heap} {locs : List Loc} {ls : Array Slot} {x0 : Nat} {x1 : Nat} {To : xT} {No : xT} {Zo : Nat} {So : Nat} {Io : xI} {Ro : xR} (X : Cx D dA s0 p m c cX1_takes 2 s args RX1 meth) (hr : meth.sig.returnType = none) (hf : fX1_takes nf T N Z S I R x0 x1 = some (To, No, Zo, So, Io, Ro)) (V : Iv D dA s0 s T N Z I L R H locs) (hl : lv_has ls 2 [(0, .ref x0), (1, .ref x1)]) (hB : cells + (Zo - Z) ≤ kc ∧ slots + (So - S) ≤ ks) : W p l e { frames := 5, cells := kc, slots := ks, locals := 152 } s m args below meth c H locs cells slots (MQ below (xQ D dA s0 none To No Zo Io L Ro) args s kc ks (fun q => s0 ≤ q)) (F0 m 0 ls []) := by
  have hx := X.1.1
  have hb := X.1.2.1
  unfold fX1_takes at hf
  refine lv_aload_n (pc := 0) hx hb dX1_takes_0 rfl (lv_at hl 0 rfl) ?_
  replace hf := tg_s hf; obtain ⟨ht1, hf⟩ := hf
  replace hf := bs hf; obtain ⟨a2, ha2, hf⟩ := hf
  refine x_get (pc := 1) X V okX1 ht1 0 (by decide) q221 (v := va_rf (R x0 0)) rfl dX1_takes_1 ?_
  refine x_topr ha2 ?_
  refine lv_aload_n (pc := 4) hx hb dX1_takes_4 rfl (lv_at hl 1 rfl) ?_
  replace hf := tg_s hf; obtain ⟨ht3, hf⟩ := hf
  replace hf := bs hf; obtain ⟨a4, ha4, hf⟩ := hf
  refine x_get (pc := 5) X V okX1 ht3 0 (by decide) q221 (v := va_rf (R x1 0)) rfl dX1_takes_5 ?_
  refine x_topr ha4 ?_
  replace hf := tg_s hf; obtain ⟨ht7, hf⟩ := hf
  replace hf := bs hf; obtain ⟨I5, hk_6, hf⟩ := hf
  refine x_callV0 (pc := 8) (As := [.ref a4]) (rest := []) X V (mX2_takes l D dA s0 hk_6) okX2 ht7 q460 q461 q462 q121 q463 ⟨rfl, hsX2_takes⟩ ⟨Nat.le_of_ble_eq_true rfl, Nat.le_of_ble_eq_true rfl⟩ rfl hl.1 rfl (Nat.le_of_ble_eq_true rfl) dX1_takes_8 ⟨by show cells ≤ kc; omega, by show slots ≤ ks; omega⟩ (fun H locs V => W.eq (g2 := F0 m 11 ls []) rfl ?_)
  refine lv_aload_n (pc := 11) hx hb dX1_takes_11 rfl (lv_at hl 0 rfl) ?_
  replace hf := bs hf; obtain ⟨a8, ha8, hf⟩ := hf
  refine x_get (pc := 12) X V okX1 ht1 1 (by decide) q223 (v := va_rf (R x0 1)) rfl dX1_takes_12 ?_
  refine x_topr ha8 ?_
  refine lv_aload_n (pc := 15) hx hb dX1_takes_15 rfl (lv_at hl 1 rfl) ?_
  replace hf := bs hf; obtain ⟨a9, ha9, hf⟩ := hf
  refine x_get (pc := 16) X V okX1 ht3 1 (by decide) q223 (v := va_rf (R x1 1)) rfl dX1_takes_16 ?_
  refine x_topr ha9 ?_
  replace hf := bs hf; obtain ⟨I10, hk_11, hf⟩ := hf
  refine x_callSN0 (pc := 19) (As := [.ref a8, .ref a9]) (rest := []) X V (mX2_rows l D dA s0 hk_11) q470 q465 q121 q466 hsX2_rows ⟨Nat.le_of_ble_eq_true rfl, Nat.le_of_ble_eq_true rfl⟩ rfl hl.1 rfl (Nat.le_of_ble_eq_true rfl) dX1_takes_19 ⟨by show cells ≤ kc; omega, by show slots ≤ ks; omega⟩ (fun H locs V => W.eq (g2 := F0 m 22 ls []) rfl ?_)
  refine lv_aload_n (pc := 22) hx hb dX1_takes_22 rfl (lv_at hl 0 rfl) ?_
  replace hf := bs hf; obtain ⟨a12, ha12, hf⟩ := hf
  refine x_get (pc := 23) X V okX1 ht1 2 (by decide) q225 (v := va_rf (R x0 2)) rfl dX1_takes_23 ?_
  refine x_topr ha12 ?_
  refine lv_aload_n (pc := 26) hx hb dX1_takes_26 rfl (lv_at hl 1 rfl) ?_
  replace hf := bs hf; obtain ⟨a13, ha13, hf⟩ := hf
  refine x_get (pc := 27) X V okX1 ht3 2 (by decide) q225 (v := va_rf (R x1 2)) rfl dX1_takes_27 ?_
  refine x_topr ha13 ?_
  replace hf := bs hf; obtain ⟨I14, hk_15, hf⟩ := hf
  refine x_callSN0 (pc := 30) (As := [.ref a12, .ref a13]) (rest := []) X V (mX2_rows l D dA s0 hk_15) q470 q465 q121 q466 hsX2_rows ⟨Nat.le_of_ble_eq_true rfl, Nat.le_of_ble_eq_true rfl⟩ rfl hl.1 rfl (Nat.le_of_ble_eq_true rfl) dX1_takes_30 ⟨by show cells ≤ kc; omega, by show slots ≤ ks; omega⟩ (fun H locs V => W.eq (g2 := F0 m 33 ls []) rfl ?_)
  refine lv_aload_n (pc := 33) hx hb dX1_takes_33 rfl (lv_at hl 0 rfl) ?_
  replace hf := bs hf; obtain ⟨a16, ha16, hf⟩ := hf
  refine x_get (pc := 34) X V okX1 ht1 3 (by decide) q227 (v := va_rf (R x0 3)) rfl dX1_takes_34 ?_
  refine x_topr ha16 ?_
  refine lv_aload_n (pc := 37) hx hb dX1_takes_37 rfl (lv_at hl 1 rfl) ?_
  replace hf := bs hf; obtain ⟨a17, ha17, hf⟩ := hf
  refine x_get (pc := 38) X V okX1 ht3 3 (by decide) q227 (v := va_rf (R x1 3)) rfl dX1_takes_38 ?_
  refine x_topr ha17 ?_
  replace hf := bs hf; obtain ⟨I18, hk_19, hf⟩ := hf
  refine x_callSN0 (pc := 41) (As := [.ref a16, .ref a17]) (rest := []) X V (mX2_rows l D dA s0 hk_19) q470 q465 q121 q466 hsX2_rows ⟨Nat.le_of_ble_eq_true rfl, Nat.le_of_ble_eq_true rfl⟩ rfl hl.1 rfl (Nat.le_of_ble_eq_true rfl) dX1_takes_41 ⟨by show cells ≤ kc; omega, by show slots ≤ ks; omega⟩ (fun H locs V => W.eq (g2 := F0 m 44 ls []) rfl ?_)
  refine lv_aload_n (pc := 44) hx hb dX1_takes_44 rfl (lv_at hl 0 rfl) ?_
  replace hf := bs hf; obtain ⟨a20, ha20, hf⟩ := hf
  refine x_get (pc := 45) X V okX1 ht1 4 (by decide) q229 (v := va_rf (R x0 4)) rfl dX1_takes_45 ?_
  refine x_topr ha20 ?_
  refine lv_aload_n (pc := 48) hx hb dX1_takes_48 rfl (lv_at hl 1 rfl) ?_
  replace hf := bs hf; obtain ⟨a21, ha21, hf⟩ := hf
  refine x_get (pc := 49) X V okX1 ht3 4 (by decide) q229 (v := va_rf (R x1 4)) rfl dX1_takes_49 ?_
  refine x_topr ha21 ?_
  replace hf := bs hf; obtain ⟨I22, hk_23, hf⟩ := hf
  refine x_callSN0 (pc := 52) (As := [.ref a20, .ref a21]) (rest := []) X V (mX2_rows l D dA s0 hk_23) q470 q465 q121 q466 hsX2_rows ⟨Nat.le_of_ble_eq_true rfl, Nat.le_of_ble_eq_true rfl⟩ rfl hl.1 rfl (Nat.le_of_ble_eq_true rfl) dX1_takes_52 ⟨by show cells ≤ kc; omega, by show slots ≤ ks; omega⟩ (fun H locs V => W.eq (g2 := F0 m 55 ls []) rfl ?_)
  refine lv_aload_n (pc := 55) hx hb dX1_takes_55 rfl (lv_at hl 0 rfl) ?_
  replace hf := bs hf; obtain ⟨a24, ha24, hf⟩ := hf
  refine x_get (pc := 56) X V okX1 ht1 5 (by decide) q231 (v := va_rf (R x0 5)) rfl dX1_takes_56 ?_
  refine x_topr ha24 ?_
  refine lv_aload_n (pc := 59) hx hb dX1_takes_59 rfl (lv_at hl 1 rfl) ?_
  replace hf := bs hf; obtain ⟨a25, ha25, hf⟩ := hf
  refine x_get (pc := 60) X V okX1 ht3 5 (by decide) q231 (v := va_rf (R x1 5)) rfl dX1_takes_60 ?_
  refine x_topr ha25 ?_
  replace hf := bs hf; obtain ⟨I26, hk_27, hf⟩ := hf
  refine x_callSN0 (pc := 63) (As := [.ref a24, .ref a25]) (rest := []) X V (mX2_rows l D dA s0 hk_27) q470 q465 q121 q466 hsX2_rows ⟨Nat.le_of_ble_eq_true rfl, Nat.le_of_ble_eq_true rfl⟩ rfl hl.1 rfl (Nat.le_of_ble_eq_true rfl) dX1_takes_63 ⟨by show cells ≤ kc; omega, by show slots ≤ ks; omega⟩ (fun H locs V => W.eq (g2 := F0 m 66 ls []) rfl ?_)
  refine lv_aload_n (pc := 66) hx hb dX1_takes_66 rfl (lv_at hl 0 rfl) ?_
  replace hf := bs hf; obtain ⟨a28, ha28, hf⟩ := hf
  refine x_get (pc := 67) X V okX1 ht1 6 (by decide) q233 (v := va_rf (R x0 6)) rfl dX1_takes_67 ?_
  refine x_topr ha28 ?_
  refine lv_aload_n (pc := 70) hx hb dX1_takes_70 rfl (lv_at hl 1 rfl) ?_
  replace hf := bs hf; obtain ⟨a29, ha29, hf⟩ := hf
  refine x_get (pc := 71) X V okX1 ht3 6 (by decide) q233 (v := va_rf (R x1 6)) rfl dX1_takes_71 ?_
  refine x_topr ha29 ?_
  replace hf := bs hf; obtain ⟨I30, hk_31, hf⟩ := hf
  refine x_callSN0 (pc := 74) (As := [.ref a28, .ref a29]) (rest := []) X V (mX2_rows l D dA s0 hk_31) q470 q465 q121 q466 hsX2_rows ⟨Nat.le_of_ble_eq_true rfl, Nat.le_of_ble_eq_true rfl⟩ rfl hl.1 rfl (Nat.le_of_ble_eq_true rfl) dX1_takes_74 ⟨by show cells ≤ kc; omega, by show slots ≤ ks; omega⟩ (fun H locs V => W.eq (g2 := F0 m 77 ls []) rfl ?_)
  refine lv_aload_n (pc := 77) hx hb dX1_takes_77 rfl (lv_at hl 0 rfl) ?_
  replace hf := bs hf; obtain ⟨a32, ha32, hf⟩ := hf
  refine x_get (pc := 78) X V okX1 ht1 7 (by decide) q235 (v := va_rf (R x0 7)) rfl dX1_takes_78 ?_
  refine x_topr ha32 ?_
  replace hf := tg_s hf; obtain ⟨ht36, hf⟩ := hf
  replace hf := b2s hf; obtain ⟨I33, R34, hk_35, hf⟩ := hf
  refine x_callV0 (pc := 81) (As := []) (rest := []) X V (mJ2_clear l D dA s0 hk_35) okJ2 ht36 q471 q472 q473 q124 q474 ⟨rfl, hsJ2_clear⟩ ⟨Nat.le_of_ble_eq_true rfl, Nat.le_of_ble_eq_true rfl⟩ rfl hl.1 rfl (Nat.le_of_ble_eq_true rfl) dX1_takes_81 ⟨by show cells ≤ kc; omega, by show slots ≤ ks; omega⟩ (fun H locs V => W.eq (g2 := F0 m 84 ls []) rfl ?_)
  refine lv_aload_n (pc := 84) hx hb dX1_takes_84 rfl (lv_at hl 0 rfl) ?_
  replace hf := bs hf; obtain ⟨a37, ha37, hf⟩ := hf
  refine x_get (pc := 85) X V okX1 ht1 7 (by decide) q235 (v := va_rf (R34 x0 7)) rfl dX1_takes_85 ?_
  refine x_topr ha37 ?_
  refine lv_aload_n (pc := 88) hx hb dX1_takes_88 rfl (lv_at hl 1 rfl) ?_
  replace hf := bs hf; obtain ⟨a38, ha38, hf⟩ := hf
  refine x_get (pc := 89) X V okX1 ht3 7 (by decide) q235 (v := va_rf (R34 x1 7)) rfl dX1_takes_89 ?_
  refine x_topr ha38 ?_
  replace hf := tg_s hf; obtain ⟨ht47, hf⟩ := hf
  replace hf := b7s hf; obtain ⟨r39, T40, N41, Z42, S43, I44, R45, hk_46, hf⟩ := hf
  have hm_hk_46 := zJ2_addAll hk_46
  have hm := zX1_takes_b95 hf
  refine x_callV (pc := 92) (As := [.ref a38]) (rest := []) X V (mJ2_addAll l D dA s0 (kc := Z42 - Z) (ks := S43 - S) (Nat.le_refl _) (Nat.le_refl _) hk_46) okJ2 ht47 q475 q476 q477 q124 q478 ⟨rfl, hsJ2_addAll⟩ ⟨Nat.le_of_ble_eq_true rfl, Nat.le_of_ble_eq_true rfl⟩ rfl hl.1 rfl (Nat.le_of_ble_eq_true rfl) dX1_takes_92 ⟨by show _ ≤ kc; omega, by show _ ≤ ks; omega⟩ (fun H locs V => W.eq (g2 := F0 m 95 ls [.int r39]) rfl ?_)
  exact wX1_takes_b95 X hr hf V (lv_sub hl [0, 1] rfl) ⟨by omega, by omega⟩
theorem mX1_takes {nf : Nat} (l : Launch) (D : va_G) (dA : Nat → ClassId) (s0 : Nat) {kc ks : Nat} {T : xT} {N : xT} {Z : Nat} {S : Nat} {I : xI} {L : xL} {R : xR} {x0 : Nat} {x1 : Nat} {To : xT} {No : xT} {Zo : Nat} {So : Nat} {Io : xI} {Ro : xR} (hZ : Zo - Z ≤ kc) (hS : So - S ≤ ks) (hf : fX1_takes nf T N Z S I R x0 x1 = some (To, No, Zo, So, Io, Ro)) : XMet l D dA s0 yX1_takes (ws_ yX1_takes cX1_takes 2 (none)) (5) (152) [.ref x0, .ref x1] T N Z I L R none To No Zo Io L Ro kc ks :=
  x_start (own := RX1) rfl (by decide) (Nat.le_of_ble_eq_true rfl) (lv := [(0, .ref x0), (1, .ref x1)]) rfl (fun p e s m below meth c ls X hr hini V hl => wX1_takes_e X hr hf V hl ⟨by omega, by omega⟩)
set_option maxHeartbeats 400000 in
set_option maxRecDepth 100000 in
theorem wX1_isAt_e {p : Program} {l : Launch} {e : Env} {s : State} {m : MethodId} {args : Array Value} {below : List Frame} {meth : Method} {c : Code} {D : va_G} {dA : Nat → ClassId} {s0 : Nat} {T : xT} {N : xT} {Z : Nat} {I : xI} {L : xL} {R : xR} {H : Heap} {locs : List Loc} {ls : Array Slot} {x0 : Nat} {x1 : Int32} {x2 : Int32} {ro : Int32} (X : Cx D dA s0 p m c cX1_isAt 3 s args RX1 meth) (hr : meth.sig.returnType = (some .boolean)) (hf : fX1_isAt T N I R x0 x1 x2 = some ro) (V : Iv D dA s0 s T N Z I L R H locs) (hl : lv_has ls 3 [(0, .ref x0), (1, .int x1), (2, .int x2)]) : W p l e { frames := 0, cells := 0, slots := 0, locals := 0 } s m args below meth c H locs 0 0 (MQ below (xQ D dA s0 (some (.int ro)) T N Z I L R) args s 0 0 (fun q => s0 ≤ q)) (F0 m 0 ls []) := by
  have hx := X.1.1
  have hb := X.1.2.1
  unfold fX1_isAt at hf
  refine lv_aload_n (pc := 0) hx hb dX1_isAt_0 rfl (lv_at hl 0 rfl) ?_
  replace hf := tg_s hf; obtain ⟨ht1, hf⟩ := hf
  replace hf := bs hf; obtain ⟨a2, ha2, hf⟩ := hf
  refine x_get (pc := 1) X V okX1 ht1 1 (by decide) q223 (v := va_rf (R x0 1)) rfl dX1_isAt_1 ?_
  refine x_topr ha2 ?_
  refine lv_iload_n (pc := 4) hx hb dX1_isAt_4 rfl (lv_at hl 1 rfl) ?_
  replace hf := rA_s hf; obtain ⟨j3, hjj3, htj3, hij3, hf⟩ := hf
  refine x_iald (pc := 5) X V htj3 hij3 hjj3 dX1_isAt_5 ?_
  refine lv_iload_n (pc := 6) hx hb dX1_isAt_6 rfl (lv_at hl 2 rfl) ?_
  refine lv_icmp_eq (pc := 7) (tgt := 20) hx hb dX1_isAt_7 (by decide) (fun c4 => ?_) (fun c4 => ?_)
  · replace hf := if_t hf c4
    refine lv_iconst (pc := 20) (v := (ii 1)) hx hb dX1_isAt_20 (by decide) ?_
    refine lv_goto (pc := 21) (tgt := 25) hx hb dX1_isAt_21 (by decide) ?_
    cases hf
    exact x_zret (pc := 25) X V hr (by decide) dX1_isAt_25
  · replace hf := if_f hf c4
    refine lv_aload_n (pc := 10) hx hb dX1_isAt_10 rfl (lv_at hl 0 rfl) ?_
    replace hf := bs hf; obtain ⟨a5, ha5, hf⟩ := hf
    refine x_get (pc := 11) X V okX1 ht1 2 (by decide) q225 (v := va_rf (R x0 2)) rfl dX1_isAt_11 ?_
    refine x_topr ha5 ?_
    refine lv_iload_n (pc := 14) hx hb dX1_isAt_14 rfl (lv_at hl 1 rfl) ?_
    replace hf := rA_s hf; obtain ⟨j6, hjj6, htj6, hij6, hf⟩ := hf
    refine x_iald (pc := 15) X V htj6 hij6 hjj6 dX1_isAt_15 ?_
    refine lv_iload_n (pc := 16) hx hb dX1_isAt_16 rfl (lv_at hl 2 rfl) ?_
    refine lv_icmp_ne (pc := 17) (tgt := 24) hx hb dX1_isAt_17 (by decide) (fun c7 => ?_) (fun c7 => ?_)
    · replace hf := if_f hf c7
      refine lv_iconst (pc := 24) (v := (ii 0)) hx hb dX1_isAt_24 (by decide) ?_
      cases hf
      exact x_zret (pc := 25) X V hr (by decide) dX1_isAt_25
    · replace hf := if_t hf c7
      refine lv_iconst (pc := 20) (v := (ii 1)) hx hb dX1_isAt_20 (by decide) ?_
      refine lv_goto (pc := 21) (tgt := 25) hx hb dX1_isAt_21 (by decide) ?_
      cases hf
      exact x_zret (pc := 25) X V hr (by decide) dX1_isAt_25
theorem mX1_isAt (l : Launch) (D : va_G) (dA : Nat → ClassId) (s0 : Nat) {T : xT} {N : xT} {Z : Nat} {I : xI} {L : xL} {R : xR} {x0 : Nat} {x1 : Int32} {x2 : Int32} {ro : Int32} (hf : fX1_isAt T N I R x0 x1 x2 = some ro) : XMet l D dA s0 yX1_isAt (ws_ yX1_isAt cX1_isAt 3 ((some .boolean))) (0) (0) [.ref x0, .int x1, .int x2] T N Z I L R (some (.int ro)) T N Z I L R 0 0 :=
  x_start (own := RX1) rfl (by decide) (Nat.le_of_ble_eq_true rfl) (lv := [(0, .ref x0), (1, .int x1), (2, .int x2)]) rfl (fun p e s m below meth c ls X hr hini V hl => wX1_isAt_e X hr hf V hl)
set_option maxHeartbeats 400000 in
set_option maxRecDepth 100000 in
theorem wX1_otherEnd_e {p : Program} {l : Launch} {e : Env} {s : State} {m : MethodId} {args : Array Value} {below : List Frame} {meth : Method} {c : Code} {D : va_G} {dA : Nat → ClassId} {s0 : Nat} {T : xT} {N : xT} {Z : Nat} {I : xI} {L : xL} {R : xR} {H : Heap} {locs : List Loc} {ls : Array Slot} {x0 : Nat} {x1 : Int32} {x2 : Int32} {ro : Int32} (X : Cx D dA s0 p m c cX1_otherEnd 3 s args RX1 meth) (hr : meth.sig.returnType = (some .int)) (hf : fX1_otherEnd T N I R x0 x1 x2 = some ro) (V : Iv D dA s0 s T N Z I L R H locs) (hl : lv_has ls 3 [(0, .ref x0), (1, .int x1), (2, .int x2)]) : W p l e { frames := 0, cells := 0, slots := 0, locals := 0 } s m args below meth c H locs 0 0 (MQ below (xQ D dA s0 (some (.int ro)) T N Z I L R) args s 0 0 (fun q => s0 ≤ q)) (F0 m 0 ls []) := by
  have hx := X.1.1
  have hb := X.1.2.1
  unfold fX1_otherEnd at hf
  refine lv_aload_n (pc := 0) hx hb dX1_otherEnd_0 rfl (lv_at hl 0 rfl) ?_
  replace hf := tg_s hf; obtain ⟨ht1, hf⟩ := hf
  replace hf := bs hf; obtain ⟨a2, ha2, hf⟩ := hf
  refine x_get (pc := 1) X V okX1 ht1 1 (by decide) q223 (v := va_rf (R x0 1)) rfl dX1_otherEnd_1 ?_
  refine x_topr ha2 ?_
  refine lv_iload_n (pc := 4) hx hb dX1_otherEnd_4 rfl (lv_at hl 1 rfl) ?_
  replace hf := rA_s hf; obtain ⟨j3, hjj3, htj3, hij3, hf⟩ := hf
  refine x_iald (pc := 5) X V htj3 hij3 hjj3 dX1_otherEnd_5 ?_
  refine lv_iload_n (pc := 6) hx hb dX1_otherEnd_6 rfl (lv_at hl 2 rfl) ?_
  refine lv_icmp_ne (pc := 7) (tgt := 19) hx hb dX1_otherEnd_7 (by decide) (fun c4 => ?_) (fun c4 => ?_)
  · replace hf := if_f hf c4
    refine lv_aload_n (pc := 19) hx hb dX1_otherEnd_19 rfl (lv_at hl 0 rfl) ?_
    refine x_get (pc := 20) X V okX1 ht1 1 (by decide) q223 (v := va_rf (R x0 1)) rfl dX1_otherEnd_20 ?_
    refine x_topr ha2 ?_
    refine lv_iload_n (pc := 23) hx hb dX1_otherEnd_23 rfl (lv_at hl 1 rfl) ?_
    refine x_iald (pc := 24) X V htj3 hij3 hjj3 dX1_otherEnd_24 ?_
    cases hf
    exact x_iret (pc := 25) X V hr dX1_otherEnd_25
  · replace hf := if_t hf c4
    refine lv_aload_n (pc := 10) hx hb dX1_otherEnd_10 rfl (lv_at hl 0 rfl) ?_
    replace hf := bs hf; obtain ⟨a5, ha5, hf⟩ := hf
    refine x_get (pc := 11) X V okX1 ht1 2 (by decide) q225 (v := va_rf (R x0 2)) rfl dX1_otherEnd_11 ?_
    refine x_topr ha5 ?_
    refine lv_iload_n (pc := 14) hx hb dX1_otherEnd_14 rfl (lv_at hl 1 rfl) ?_
    replace hf := rA_s hf; obtain ⟨j6, hjj6, htj6, hij6, hf⟩ := hf
    refine x_iald (pc := 15) X V htj6 hij6 hjj6 dX1_otherEnd_15 ?_
    refine lv_goto (pc := 16) (tgt := 25) hx hb dX1_otherEnd_16 (by decide) ?_
    cases hf
    exact x_iret (pc := 25) X V hr dX1_otherEnd_25
theorem mX1_otherEnd (l : Launch) (D : va_G) (dA : Nat → ClassId) (s0 : Nat) {T : xT} {N : xT} {Z : Nat} {I : xI} {L : xL} {R : xR} {x0 : Nat} {x1 : Int32} {x2 : Int32} {ro : Int32} (hf : fX1_otherEnd T N I R x0 x1 x2 = some ro) : XMet l D dA s0 yX1_otherEnd (ws_ yX1_otherEnd cX1_otherEnd 3 ((some .int))) (0) (0) [.ref x0, .int x1, .int x2] T N Z I L R (some (.int ro)) T N Z I L R 0 0 :=
  x_start (own := RX1) rfl (by decide) (Nat.le_of_ble_eq_true rfl) (lv := [(0, .ref x0), (1, .int x1), (2, .int x2)]) rfl (fun p e s m below meth c ls X hr hini V hl => wX1_otherEnd_e X hr hf V hl)
