set_option maxHeartbeats 400000 in
set_option maxRecDepth 100000 in
theorem zX0_reads_ndX20_b7 {nf : Nat} {dA : Nat → ClassId} {T : xT} {N : xT} {Z : Nat} {S : Nat} {I : xI} {L : xL} {R : xR}  {x0 : Nat} {z0 : Nat} {ro : Int32} {To : xT} {No : xT} {Zo : Nat} {So : Nat} {Io : xI} {Ro : xR}  (hf : fX0_reads_ndX20_b7 nf (sv dA) T N Z S I L R x0 z0 = some (ro, To, No, Zo, So, Io, Ro)) : Z ≤ Zo ∧ S ≤ So := by
  unfold fX0_reads_ndX20_b7 at hf
  replace hf := tg_s hf; obtain ⟨ht1, hf⟩ := hf
  replace hf := tg_s hf; obtain ⟨ht2, hf⟩ := hf
  replace hf := nm_s hf; obtain ⟨I3, hI3, hf⟩ := hf
  cases hf
  exact ⟨Nat.le_refl _, Nat.le_refl _⟩
set_option maxHeartbeats 400000 in
set_option maxRecDepth 100000 in
theorem wX0_reads_ndX20_b7 {nf : Nat} {kc ks : Nat} {cells slots : Nat} {p : Program} {l : Launch} {e : Env} {s : State} {m : MethodId} {args : Array Value} {below : List Frame} {meth : Method} {c : Code} {D : va_G} {dA : Nat → ClassId} {s0 : Nat} {T : xT} {N : xT} {Z : Nat} {S : Nat} {I : xI} {L : xL} {R : xR} {H : Heap} {locs : List Loc} {ls : Array Slot}  {x0 : Nat} {z0 : Nat} {ro : Int32} {To : xT} {No : xT} {Zo : Nat} {So : Nat} {Io : xI} {Ro : xR} (X : Cx D dA s0 p m c cX0_reads 3 s args RX0 meth) (hr : meth.sig.returnType = (some .boolean)) (htE : c.exceptionTable.toList = [⟨0, 4, 7, 224⟩])   (hf : fX0_reads_ndX20_b7 nf (sv dA) T N Z S I L R x0 z0 = some (ro, To, No, Zo, So, Io, Ro)) (V : Iv D dA s0 s T N Z I L R H locs) (hl : lv_has ls 3 [(0, .ref x0)]) (hB : cells + (Zo - Z) ≤ kc ∧ slots + (So - S) ≤ ks) : W p l e { frames := 1491, cells := kc, slots := ks, locals := 31936 } s m args below meth c H locs cells slots (vx_MQ below (yQ D dA s0 (rI (.inr ro)) To No Zo Io L Ro) (yX D dA s0 (rI (.inr ro)) To No Zo Io L Ro) args s kc ks (fun q => s0 ≤ q)) (F0 m 7 ls [.ref z0]) := by
  have hx := X.1.1
  have hb := X.1.2.1
  unfold fX0_reads_ndX20_b7 at hf
  refine lv_astore_n (pc := 7) (lv' := [(2, .ref z0), (0, .ref x0)]) hx hb dX0_reads_7 rfl hl (by decide) rfl (fun ls hl => ?_)
  refine lv_aload_n (pc := 8) hx hb dX0_reads_8 rfl (lv_at hl 1 rfl) ?_
  refine lv_aload_n (pc := 9) hx hb dX0_reads_9 rfl (lv_at hl 0 rfl) ?_
  replace hf := tg_s hf; obtain ⟨ht1, hf⟩ := hf
  refine x_getN (pc := 10) X V okX8 ht1 6 (by decide) q869 (v := .int (I z0 6)) rfl dX0_reads_10 ?_
  replace hf := tg_s hf; obtain ⟨ht2, hf⟩ := hf
  replace hf := nm_s hf; obtain ⟨I3, hI3, hf⟩ := hf
  refine x_puti (pc := 13) X V okX0 (by decide) ht2 12 (by decide) q372 (Or.inl rfl) hI3 (fun _ _ _ => rfl) rfl rfl dX0_reads_13 (fun H locs V => ?_)
  refine lv_iconst (pc := 16) (v := (ii 0)) hx hb dX0_reads_16 (by decide) ?_
  cases hf
  exact y_zret (pc := 17) X V hr (by omega) (by omega) (by decide) dX0_reads_17
set_option maxHeartbeats 400000 in
set_option maxRecDepth 100000 in
theorem zX0_reads_ndX20_b4 {nf : Nat} {dA : Nat → ClassId} {T : xT} {N : xT} {Z : Nat} {S : Nat} {I : xI} {L : xL} {R : xR}  {x0 : Nat} {ro : Int32} {To : xT} {No : xT} {Zo : Nat} {So : Nat} {Io : xI} {Ro : xR}  (hf : fX0_reads_ndX20_b4 nf (sv dA) T N Z S I L R x0 = some (ro, To, No, Zo, So, Io, Ro)) : Z ≤ Zo ∧ S ≤ So := by
  unfold fX0_reads_ndX20_b4 at hf
  replace hf := tg_s hf; obtain ⟨ht1, hf⟩ := hf
  replace hf := nm_s hf; obtain ⟨I2, hI2, hf⟩ := hf
  cases hf
  exact ⟨Nat.le_refl _, Nat.le_refl _⟩
set_option maxHeartbeats 400000 in
set_option maxRecDepth 100000 in
theorem wX0_reads_ndX20_b4 {nf : Nat} {kc ks : Nat} {cells slots : Nat} {p : Program} {l : Launch} {e : Env} {s : State} {m : MethodId} {args : Array Value} {below : List Frame} {meth : Method} {c : Code} {D : va_G} {dA : Nat → ClassId} {s0 : Nat} {T : xT} {N : xT} {Z : Nat} {S : Nat} {I : xI} {L : xL} {R : xR} {H : Heap} {locs : List Loc} {ls : Array Slot}  {x0 : Nat} {ro : Int32} {To : xT} {No : xT} {Zo : Nat} {So : Nat} {Io : xI} {Ro : xR} (X : Cx D dA s0 p m c cX0_reads 3 s args RX0 meth) (hr : meth.sig.returnType = (some .boolean)) (htE : c.exceptionTable.toList = [⟨0, 4, 7, 224⟩])   (hf : fX0_reads_ndX20_b4 nf (sv dA) T N Z S I L R x0 = some (ro, To, No, Zo, So, Io, Ro)) (V : Iv D dA s0 s T N Z I L R H locs) (hl : lv_has ls 3 [(0, .ref x0)]) (hB : cells + (Zo - Z) ≤ kc ∧ slots + (So - S) ≤ ks) : W p l e { frames := 1491, cells := kc, slots := ks, locals := 31936 } s m args below meth c H locs cells slots (vx_MQ below (yQ D dA s0 (rI (.inr ro)) To No Zo Io L Ro) (yX D dA s0 (rI (.inr ro)) To No Zo Io L Ro) args s kc ks (fun q => s0 ≤ q)) (F0 m 4 ls []) := by
  have hx := X.1.1
  have hb := X.1.2.1
  unfold fX0_reads_ndX20_b4 at hf
  refine lv_goto (pc := 4) (tgt := 18) hx hb dX0_reads_4 (by decide) ?_
  refine lv_aload_n (pc := 18) hx hb dX0_reads_18 rfl (lv_at hl 0 rfl) ?_
  refine lv_iconst (pc := 19) (v := (-1 : Int32)) hx hb dX0_reads_19 (by decide) ?_
  replace hf := tg_s hf; obtain ⟨ht1, hf⟩ := hf
  replace hf := nm_s hf; obtain ⟨I2, hI2, hf⟩ := hf
  refine x_puti (pc := 20) X V okX0 (by decide) ht1 12 (by decide) q372 (Or.inl rfl) hI2 (fun _ _ _ => rfl) rfl rfl dX0_reads_20 (fun H locs V => ?_)
  refine lv_iconst (pc := 23) (v := (ii 1)) hx hb dX0_reads_23 (by decide) ?_
  cases hf
  exact y_zret (pc := 24) X V hr (by omega) (by omega) (by decide) dX0_reads_24
set_option maxHeartbeats 400000 in
set_option maxRecDepth 100000 in
theorem zX0_reads_ndX20 {nf : Nat} {dA : Nat → ClassId} {T : xT} {N : xT} {Z : Nat} {S : Nat} {I : xI} {L : xL} {R : xR} {x0 : Nat} {x1 : Nat} {ro : Int32} {To : xT} {No : xT} {Zo : Nat} {So : Nat} {Io : xI} {Ro : xR} (hf : fX0_reads_ndX20 nf (sv dA) T N Z S I L R x0 x1 = some (ro, To, No, Zo, So, Io, Ro)) : Z ≤ Zo ∧ S ≤ So := by
  unfold fX0_reads_ndX20 at hf
  replace hf := tg_s hf; obtain ⟨ht9, hf⟩ := hf
  replace hf := b7s hf; obtain ⟨r1, T2, N3, Z4, S5, I6, R7, hk_8, hf⟩ := hf
  have hm_hk_8 := zX6_read_rX20 hk_8
  replace hf := xc_s hf; rcases hf with ⟨a10, hr_12, hf⟩ | ⟨v11, hr_12, hf⟩
  · skip
    replace hf := tg_s hf; obtain ⟨ht13, hf⟩ := hf
    have hm := zX0_reads_ndX20_b7 hf
    exact ⟨by omega, by omega⟩
  · skip
    have hm := zX0_reads_ndX20_b4 hf
    exact ⟨by omega, by omega⟩
set_option maxHeartbeats 400000 in
set_option maxRecDepth 100000 in
theorem wX0_reads_ndX20_e {nf : Nat} {kc ks : Nat} {cells slots : Nat} {p : Program} {l : Launch} {e : Env} {s : State} {m : MethodId} {args : Array Value} {below : List Frame} {meth : Method} {c : Code} {D : va_G} {dA : Nat → ClassId} {s0 : Nat} {T : xT} {N : xT} {Z : Nat} {S : Nat} {I : xI} {L : xL} {R : xR} {H : Heap} {locs : List Loc} {ls : Array Slot} {x0 : Nat} {x1 : Nat} {ro : Int32} {To : xT} {No : xT} {Zo : Nat} {So : Nat} {Io : xI} {Ro : xR} (X : Cx D dA s0 p m c cX0_reads 3 s args RX0 meth) (hr : meth.sig.returnType = (some .boolean)) (htE : c.exceptionTable.toList = [⟨0, 4, 7, 224⟩]) (hf : fX0_reads_ndX20 nf (sv dA) T N Z S I L R x0 x1 = some (ro, To, No, Zo, So, Io, Ro)) (V : Iv D dA s0 s T N Z I L R H locs) (hl : lv_has ls 3 [(0, .ref x0), (1, .ref x1)]) (hB : cells + (Zo - Z) ≤ kc ∧ slots + (So - S) ≤ ks) : W p l e { frames := 1491, cells := kc, slots := ks, locals := 31936 } s m args below meth c H locs cells slots (vx_MQ below (yQ D dA s0 (rI (.inr ro)) To No Zo Io L Ro) (yX D dA s0 (rI (.inr ro)) To No Zo Io L Ro) args s kc ks (fun q => s0 ≤ q)) (F0 m 0 ls []) := by
  have hx := X.1.1
  have hb := X.1.2.1
  unfold fX0_reads_ndX20 at hf
  refine lv_aload_n (pc := 0) hx hb dX0_reads_0 rfl (lv_at hl 1 rfl) ?_
  replace hf := tg_s hf; obtain ⟨ht9, hf⟩ := hf
  replace hf := b7s hf; obtain ⟨r1, T2, N3, Z4, S5, I6, R7, hk_8, hf⟩ := hf
  have hm_hk_8 := zX6_read_rX20 hk_8
  replace hf := xc_s hf; rcases hf with ⟨a10, hr_12, hf⟩ | ⟨v11, hr_12, hf⟩
  · rw [hr_12] at hk_8
    replace hf := tg_s hf; obtain ⟨ht13, hf⟩ := hf
    have hm := zX0_reads_ndX20_b7 hf
    refine y_afterX (y_runU (pc := 1) (As := []) (rest := []) X V (mX6_read_rX20 l D dA s0 (kc := Z4 - Z) (ks := S5 - S) (Nat.le_refl _) (Nat.le_refl _) hk_8) okX20 ht9 q770 q772 q774 q771 q133 q775 rfl hsX6_read_rX20 ⟨Nat.le_of_ble_eq_true rfl, Nat.le_of_ble_eq_true rfl⟩ rfl hl.1 rfl (Nat.le_of_ble_eq_true rfl) dX0_reads_1 ⟨by show _ ≤ kc; omega, by show _ ≤ ks; omega⟩) V (fun H locs V => ?_)
    refine y_catch (pc := 1) X V [] ⟨0, 4, 7, 224⟩ [] htE (by decide) (by decide) (by decide) q769 q857 okX8 ht13 ?_
    exact wX0_reads_ndX20_b7 X hr htE hf V (lv_sub hl [0] rfl) ⟨by omega, by omega⟩
  · rw [hr_12] at hk_8
    have hm := zX0_reads_ndX20_b4 hf
    refine y_afterR (y_runU (pc := 1) (As := []) (rest := []) X V (mX6_read_rX20 l D dA s0 (kc := Z4 - Z) (ks := S5 - S) (Nat.le_refl _) (Nat.le_refl _) hk_8) okX20 ht9 q770 q772 q774 q771 q133 q775 rfl hsX6_read_rX20 ⟨Nat.le_of_ble_eq_true rfl, Nat.le_of_ble_eq_true rfl⟩ rfl hl.1 rfl (Nat.le_of_ble_eq_true rfl) dX0_reads_1 ⟨by show _ ≤ kc; omega, by show _ ≤ ks; omega⟩) V (fun H locs V => W.eq (g2 := F0 m 4 ls []) rfl ?_)
    exact wX0_reads_ndX20_b4 X hr htE hf V (lv_sub hl [0] rfl) ⟨by omega, by omega⟩
theorem mX0_reads_ndX20 {nf : Nat} (l : Launch) (D : va_G) (dA : Nat → ClassId) (s0 : Nat) {kc ks : Nat} {T : xT} {N : xT} {Z : Nat} {S : Nat} {I : xI} {L : xL} {R : xR} {x0 : Nat} {x1 : Nat} {ro : Int32} {To : xT} {No : xT} {Zo : Nat} {So : Nat} {Io : xI} {Ro : xR} (hZ : Zo - Z ≤ kc) (hS : So - S ≤ ks) (hf : fX0_reads_ndX20 nf (sv dA) T N Z S I L R x0 x1 = some (ro, To, No, Zo, So, Io, Ro)) : YMet l D dA s0 yX0_reads (wsW_ yX0_reads cX0_reads 3 ((some .boolean)) [(0, 4, 7, 224)]) (1491) (31936) [.ref x0, .ref x1] T N Z I L R (rI (.inr ro)) To No Zo Io L Ro kc ks :=
  y_startH (own := RX0) rfl (by decide) (Nat.le_of_ble_eq_true rfl) (lv := [(0, .ref x0), (1, .ref x1)]) rfl rfl (fun p e s m below meth c ls X hr htE V hl => wX0_reads_ndX20_e X hr htE hf V hl ⟨by omega, by omega⟩)
set_option maxHeartbeats 400000 in
set_option maxRecDepth 100000 in
theorem wX0_tellsOrder_b111 {nf : Nat} {p : Program} {l : Launch} {e : Env} {s : State} {m : MethodId} {args : Array Value} {below : List Frame} {meth : Method} {c : Code} {D : va_G} {dA : Nat → ClassId} {s0 : Nat} {T : xT} {N : xT} {Z : Nat} {I : xI} {R : xR}  {Lo : xL} (X : Cx D dA s0 p m c cX0_tellsOrder 6 s args RX0 meth) (hr : meth.sig.returnType = none)   (k : Nat) : ∀ {L : xL} {x0 : Nat} {x3 : Nat} {x4 : Nat} {x5 : Int32} {H : Heap} {locs : List Loc} {ls : Array Slot} , fX0_tellsOrder_b111 nf T N I R k L x0 x3 x4 x5 = some Lo → Iv D dA s0 s T N Z I L R H locs → lv_has ls 6 [(0, .ref x0), (3, .ref x3), (4, .ref x4), (5, .int x5)] → W p l e { frames := 2, cells := 0, slots := 0, locals := 43 } s m args below meth c H locs 0 0 (MQ below (xQ D dA s0 none T N Z I Lo R) args s 0 0 (fun q => s0 ≤ q)) (F0 m 111 ls []) := by
  have hx := X.1.1
  have hb := X.1.2.1
  induction k with
  | zero =>
    intro L x0 x3 x4 x5 H locs ls hf V hl
    exact absurd (show none = some _ from hf) (fun q => nomatch q)
  | succ k ih =>
    intro L x0 x3 x4 x5 H locs ls hf V hl
    rw [fX0_tellsOrder_b111] at hf
    refine lv_iload (pc := 111) hx hb dX0_tellsOrder_111 (lv_at hl 3 rfl) ?_
    refine lv_bipush (pc := 113) (v := (ii 10)) hx hb dX0_tellsOrder_113 (by decide) ?_
    refine lv_icmp_ge (pc := 115) (tgt := 155) hx hb dX0_tellsOrder_115 (by decide) (fun c1 => ?_) (fun c1 => ?_)
    · replace hf := if_t hf c1
      cases hf
      exact x_vret (pc := 155) X V hr dX0_tellsOrder_155
    · replace hf := if_f hf c1
      refine lv_aload (pc := 118) hx hb dX0_tellsOrder_118 (lv_at hl 2 rfl) ?_
      refine lv_bipush (pc := 120) (v := (ii 9)) hx hb dX0_tellsOrder_120 (by decide) ?_
      refine lv_iload (pc := 122) hx hb dX0_tellsOrder_122 (lv_at hl 3 rfl) ?_
      refine lv_iadd (pc := 124) hx hb dX0_tellsOrder_124 ?_
      refine lv_aload_n (pc := 125) hx hb dX0_tellsOrder_125 rfl (lv_at hl 0 rfl) ?_
      refine lv_iload (pc := 126) hx hb dX0_tellsOrder_126 (lv_at hl 3 rfl) ?_
      replace hf := tg_s hf; obtain ⟨ht4, hf⟩ := hf
      replace hf := bs hf; obtain ⟨r2, hk_3, hf⟩ := hf
      refine x_callV0 (pc := 128) (As := [.int x5]) (rest := [.int ((ii 9) + x5), .ref x4]) X V (mX0_isLane l D dA s0 hk_3) okX0 ht4 q576 q578 qs7 q119 q579 ⟨rfl, hsX0_isLane⟩ ⟨Nat.le_of_ble_eq_true rfl, Nat.le_of_ble_eq_true rfl⟩ rfl hl.1 rfl (Nat.le_of_ble_eq_true rfl) dX0_tellsOrder_128 ⟨Nat.zero_le _, Nat.zero_le _⟩ (fun H locs V => W.eq (g2 := F0 m 131 ls [.int r2, .int ((ii 9) + x5), .ref x4]) rfl ?_)
      refine lv_if_eq (pc := 131) (tgt := 145) hx hb dX0_tellsOrder_131 (by decide) (fun c5 => ?_) (fun c5 => ?_)
      · replace hf := if_t hf c5
        refine lv_ldc2 (pc := 145) (v := (-1 : Int64)) hx hb X.1.2.2.2.1 (X.1.2.2.2.2 _ q601) dX0_tellsOrder_145 ?_
        replace hf := rA_s hf; obtain ⟨j6, hjj6, htj6, hij6, hf⟩ := hf
        replace hf := nm_s hf; obtain ⟨L7, hL7, hf⟩ := hf
        refine x_last (pc := 148) X V htj6 hij6 hjj6 hL7 dX0_tellsOrder_148 (fun H locs V => ?_)
        replace hf := nm_s hf; obtain ⟨u8, hu8, hf⟩ := hf
        refine lv_iinc (pc := 149) (v := u8) (lv' := [(5, .int u8), (0, .ref x0), (3, .ref x3), (4, .ref x4)]) hx hb dX0_tellsOrder_149 hl (k := 3) rfl (by rw [hu8]; rfl) (by decide) rfl (fun ls hl => ?_)
        refine lv_goto (pc := 152) (tgt := 111) hx hb dX0_tellsOrder_152 (by decide) ?_
        exact ih hf V (lv_sub hl [1, 2, 3, 0] rfl)
      · replace hf := if_f hf c5
        refine lv_aload_n (pc := 134) hx hb dX0_tellsOrder_134 rfl (lv_at hl 1 rfl) ?_
        replace hf := tg_s hf; obtain ⟨ht9, hf⟩ := hf
        replace hf := bs hf; obtain ⟨a10, ha10, hf⟩ := hf
        refine x_getN (pc := 135) X V okX2 ht9 2 (by decide) q180 (v := va_rf (R x3 2)) rfl dX0_tellsOrder_135 ?_
        refine x_topr ha10 ?_
        refine lv_iload (pc := 138) hx hb dX0_tellsOrder_138 (lv_at hl 3 rfl) ?_
        replace hf := rA_s hf; obtain ⟨j11, hjj11, htj11, hij11, hf⟩ := hf
        refine x_iald (pc := 140) X V htj11 hij11 hjj11 dX0_tellsOrder_140 ?_
        refine lv_i2l (pc := 141) hx hb dX0_tellsOrder_141 rfl ?_
        refine lv_goto (pc := 142) (tgt := 148) hx hb dX0_tellsOrder_142 (by decide) ?_
        replace hf := rA_s hf; obtain ⟨j12, hjj12, htj12, hij12, hf⟩ := hf
        replace hf := nm_s hf; obtain ⟨L13, hL13, hf⟩ := hf
        refine x_last (pc := 148) X V htj12 hij12 hjj12 hL13 dX0_tellsOrder_148 (fun H locs V => ?_)
        replace hf := nm_s hf; obtain ⟨u14, hu14, hf⟩ := hf
        refine lv_iinc (pc := 149) (v := u14) (lv' := [(5, .int u14), (0, .ref x0), (3, .ref x3), (4, .ref x4)]) hx hb dX0_tellsOrder_149 hl (k := 3) rfl (by rw [hu14]; rfl) (by decide) rfl (fun ls hl => ?_)
        refine lv_goto (pc := 152) (tgt := 111) hx hb dX0_tellsOrder_152 (by decide) ?_
        exact ih hf V (lv_sub hl [1, 2, 3, 0] rfl)
set_option maxHeartbeats 400000 in
set_option maxRecDepth 100000 in
theorem wX0_tellsOrder_b66 {nf : Nat} {p : Program} {l : Launch} {e : Env} {s : State} {m : MethodId} {args : Array Value} {below : List Frame} {meth : Method} {c : Code} {D : va_G} {dA : Nat → ClassId} {s0 : Nat} {T : xT} {N : xT} {Z : Nat} {I : xI} {R : xR}  {Lo : xL} (X : Cx D dA s0 p m c cX0_tellsOrder 6 s args RX0 meth) (hr : meth.sig.returnType = none)   (k : Nat) : ∀ {L : xL} {x0 : Nat} {x3 : Nat} {x4 : Nat} {x5 : Int32} {H : Heap} {locs : List Loc} {ls : Array Slot} , fX0_tellsOrder_b66 nf T N I R k L x0 x3 x4 x5 = some Lo → Iv D dA s0 s T N Z I L R H locs → lv_has ls 6 [(0, .ref x0), (3, .ref x3), (4, .ref x4), (5, .int x5)] → W p l e { frames := 2, cells := 0, slots := 0, locals := 43 } s m args below meth c H locs 0 0 (MQ below (xQ D dA s0 none T N Z I Lo R) args s 0 0 (fun q => s0 ≤ q)) (F0 m 66 ls []) := by
  have hx := X.1.1
  have hb := X.1.2.1
  induction k with
  | zero =>
    intro L x0 x3 x4 x5 H locs ls hf V hl
    exact absurd (show none = some _ from hf) (fun q => nomatch q)
  | succ k ih =>
    intro L x0 x3 x4 x5 H locs ls hf V hl
    rw [fX0_tellsOrder_b66] at hf
    refine lv_iload (pc := 66) hx hb dX0_tellsOrder_66 (lv_at hl 3 rfl) ?_
    refine lv_iconst (pc := 68) (v := (ii 4)) hx hb dX0_tellsOrder_68 (by decide) ?_
    refine lv_icmp_ge (pc := 69) (tgt := 108) hx hb dX0_tellsOrder_69 (by decide) (fun c1 => ?_) (fun c1 => ?_)
    · replace hf := if_t hf c1
      refine lv_iconst (pc := 108) (v := (ii 0)) hx hb dX0_tellsOrder_108 (by decide) ?_
      refine lv_istore (pc := 109) (lv' := [(5, .int (ii 0)), (0, .ref x0), (3, .ref x3), (4, .ref x4)]) hx hb dX0_tellsOrder_109 hl (by decide) rfl (fun ls hl => ?_)
      exact wX0_tellsOrder_b111 X hr nf hf V (lv_sub hl [1, 2, 3, 0] rfl)
    · replace hf := if_f hf c1
      refine lv_aload (pc := 72) hx hb dX0_tellsOrder_72 (lv_at hl 2 rfl) ?_
      refine lv_iconst (pc := 74) (v := (ii 5)) hx hb dX0_tellsOrder_74 (by decide) ?_
      refine lv_iload (pc := 75) hx hb dX0_tellsOrder_75 (lv_at hl 3 rfl) ?_
      refine lv_iadd (pc := 77) hx hb dX0_tellsOrder_77 ?_
      refine lv_aload_n (pc := 78) hx hb dX0_tellsOrder_78 rfl (lv_at hl 0 rfl) ?_
      refine lv_iload (pc := 79) hx hb dX0_tellsOrder_79 (lv_at hl 3 rfl) ?_
      replace hf := tg_s hf; obtain ⟨ht4, hf⟩ := hf
      replace hf := bs hf; obtain ⟨r2, hk_3, hf⟩ := hf
      refine x_callV0 (pc := 81) (As := [.int x5]) (rest := [.int ((ii 5) + x5), .ref x4]) X V (mX0_isChild l D dA s0 hk_3) okX0 ht4 q588 q590 qs8 q119 q591 ⟨rfl, hsX0_isChild⟩ ⟨Nat.le_of_ble_eq_true rfl, Nat.le_of_ble_eq_true rfl⟩ rfl hl.1 rfl (Nat.le_of_ble_eq_true rfl) dX0_tellsOrder_81 ⟨Nat.zero_le _, Nat.zero_le _⟩ (fun H locs V => W.eq (g2 := F0 m 84 ls [.int r2, .int ((ii 5) + x5), .ref x4]) rfl ?_)
      refine lv_if_eq (pc := 84) (tgt := 98) hx hb dX0_tellsOrder_84 (by decide) (fun c5 => ?_) (fun c5 => ?_)
      · replace hf := if_t hf c5
        refine lv_ldc2 (pc := 98) (v := (-1 : Int64)) hx hb X.1.2.2.2.1 (X.1.2.2.2.2 _ q601) dX0_tellsOrder_98 ?_
        replace hf := rA_s hf; obtain ⟨j6, hjj6, htj6, hij6, hf⟩ := hf
        replace hf := nm_s hf; obtain ⟨L7, hL7, hf⟩ := hf
        refine x_last (pc := 101) X V htj6 hij6 hjj6 hL7 dX0_tellsOrder_101 (fun H locs V => ?_)
        replace hf := nm_s hf; obtain ⟨u8, hu8, hf⟩ := hf
        refine lv_iinc (pc := 102) (v := u8) (lv' := [(5, .int u8), (0, .ref x0), (3, .ref x3), (4, .ref x4)]) hx hb dX0_tellsOrder_102 hl (k := 3) rfl (by rw [hu8]; rfl) (by decide) rfl (fun ls hl => ?_)
        refine lv_goto (pc := 105) (tgt := 66) hx hb dX0_tellsOrder_105 (by decide) ?_
        exact ih hf V (lv_sub hl [1, 2, 3, 0] rfl)
      · replace hf := if_f hf c5
        refine lv_aload_n (pc := 87) hx hb dX0_tellsOrder_87 rfl (lv_at hl 1 rfl) ?_
        replace hf := tg_s hf; obtain ⟨ht9, hf⟩ := hf
        replace hf := bs hf; obtain ⟨a10, ha10, hf⟩ := hf
        refine x_getN (pc := 88) X V okX2 ht9 0 (by decide) q176 (v := va_rf (R x3 0)) rfl dX0_tellsOrder_88 ?_
        refine x_topr ha10 ?_
        refine lv_iload (pc := 91) hx hb dX0_tellsOrder_91 (lv_at hl 3 rfl) ?_
        replace hf := rA_s hf; obtain ⟨j11, hjj11, htj11, hij11, hf⟩ := hf
        refine x_iald (pc := 93) X V htj11 hij11 hjj11 dX0_tellsOrder_93 ?_
        refine lv_i2l (pc := 94) hx hb dX0_tellsOrder_94 rfl ?_
        refine lv_goto (pc := 95) (tgt := 101) hx hb dX0_tellsOrder_95 (by decide) ?_
        replace hf := rA_s hf; obtain ⟨j12, hjj12, htj12, hij12, hf⟩ := hf
        replace hf := nm_s hf; obtain ⟨L13, hL13, hf⟩ := hf
        refine x_last (pc := 101) X V htj12 hij12 hjj12 hL13 dX0_tellsOrder_101 (fun H locs V => ?_)
        replace hf := nm_s hf; obtain ⟨u14, hu14, hf⟩ := hf
        refine lv_iinc (pc := 102) (v := u14) (lv' := [(5, .int u14), (0, .ref x0), (3, .ref x3), (4, .ref x4)]) hx hb dX0_tellsOrder_102 hl (k := 3) rfl (by rw [hu14]; rfl) (by decide) rfl (fun ls hl => ?_)
        refine lv_goto (pc := 105) (tgt := 66) hx hb dX0_tellsOrder_105 (by decide) ?_
        exact ih hf V (lv_sub hl [1, 2, 3, 0] rfl)
set_option maxHeartbeats 400000 in
set_option maxRecDepth 100000 in
theorem wX0_tellsOrder_e {nf : Nat} {p : Program} {l : Launch} {e : Env} {s : State} {m : MethodId} {args : Array Value} {below : List Frame} {meth : Method} {c : Code} {D : va_G} {dA : Nat → ClassId} {s0 : Nat} {T : xT} {N : xT} {Z : Nat} {I : xI} {L : xL} {R : xR} {H : Heap} {locs : List Loc} {ls : Array Slot} {x0 : Nat} {x1 : Int32} {x2 : Int32} {Lo : xL} (X : Cx D dA s0 p m c cX0_tellsOrder 6 s args RX0 meth) (hr : meth.sig.returnType = none) (hf : fX0_tellsOrder nf T N I L R x0 x1 x2 = some Lo) (V : Iv D dA s0 s T N Z I L R H locs) (hl : lv_has ls 6 [(0, .ref x0), (1, .int x1), (2, .int x2)]) : W p l e { frames := 2, cells := 0, slots := 0, locals := 43 } s m args below meth c H locs 0 0 (MQ below (xQ D dA s0 none T N Z I Lo R) args s 0 0 (fun q => s0 ≤ q)) (F0 m 0 ls []) := by
  have hx := X.1.1
  have hb := X.1.2.1
  unfold fX0_tellsOrder at hf
  refine lv_aload_n (pc := 0) hx hb dX0_tellsOrder_0 rfl (lv_at hl 0 rfl) ?_
  replace hf := tg_s hf; obtain ⟨ht3, hf⟩ := hf
  replace hf := bs hf; obtain ⟨r1, hk_2, hf⟩ := hf
  refine x_callV0 (pc := 1) (As := []) (rest := []) X V (mX0_table l D dA s0 hk_2) okX0 ht3 q568 q570 qs6 q119 q571 ⟨rfl, hsX0_table⟩ ⟨Nat.le_of_ble_eq_true rfl, Nat.le_of_ble_eq_true rfl⟩ rfl hl.1 rfl (Nat.le_of_ble_eq_true rfl) dX0_tellsOrder_1 ⟨Nat.zero_le _, Nat.zero_le _⟩ (fun H locs V => W.eq (g2 := F0 m 4 ls [.ref r1]) rfl ?_)
  refine lv_astore_n (pc := 4) (lv' := [(3, .ref r1), (0, .ref x0), (1, .int x1), (2, .int x2)]) hx hb dX0_tellsOrder_4 rfl hl (by decide) rfl (fun ls hl => ?_)
  refine lv_aload_n (pc := 5) hx hb dX0_tellsOrder_5 rfl (lv_at hl 1 rfl) ?_
  replace hf := bs hf; obtain ⟨a4, ha4, hf⟩ := hf
  refine x_get (pc := 6) X V okX0 ht3 16 (by decide) q376 (v := va_rf (R x0 16)) rfl dX0_tellsOrder_6 ?_
  refine x_topr ha4 ?_
  replace hf := tg_s hf; obtain ⟨ht5, hf⟩ := hf
  replace hf := bs hf; obtain ⟨a6, ha6, hf⟩ := hf
  refine x_getN (pc := 9) X V okX3 ht5 1 (by decide) q353 (v := va_rf (R a4 1)) rfl dX0_tellsOrder_9 ?_
  refine x_topr ha6 ?_
  refine lv_astore (pc := 12) (lv' := [(4, .ref a6), (3, .ref r1), (0, .ref x0), (1, .int x1), (2, .int x2)]) hx hb dX0_tellsOrder_12 hl (by decide) rfl (fun ls hl => ?_)
  refine lv_aload (pc := 14) hx hb dX0_tellsOrder_14 (lv_at hl 0 rfl) ?_
  refine lv_iconst (pc := 16) (v := (ii 0)) hx hb dX0_tellsOrder_16 (by decide) ?_
  refine lv_aload_n (pc := 17) hx hb dX0_tellsOrder_17 rfl (lv_at hl 1 rfl) ?_
  replace hf := tg_s hf; obtain ⟨ht7, hf⟩ := hf
  refine x_getN (pc := 18) X V okX2 ht7 3 (by decide) q182 (v := .int (I r1 3)) rfl dX0_tellsOrder_18 ?_
  refine lv_i2l (pc := 21) hx hb dX0_tellsOrder_21 rfl ?_
  replace hf := rA_s hf; obtain ⟨j8, hjj8, htj8, hij8, hf⟩ := hf
  replace hf := nm_s hf; obtain ⟨L9, hL9, hf⟩ := hf
  refine x_last (pc := 22) X V htj8 hij8 hjj8 hL9 dX0_tellsOrder_22 (fun H locs V => ?_)
  refine lv_aload (pc := 23) hx hb dX0_tellsOrder_23 (lv_at hl 0 rfl) ?_
  refine lv_iconst (pc := 25) (v := (ii 1)) hx hb dX0_tellsOrder_25 (by decide) ?_
  refine lv_iload_n (pc := 26) hx hb dX0_tellsOrder_26 rfl (lv_at hl 3 rfl) ?_
  refine lv_i2l (pc := 27) hx hb dX0_tellsOrder_27 rfl ?_
  replace hf := rA_s hf; obtain ⟨j10, hjj10, htj10, hij10, hf⟩ := hf
  replace hf := nm_s hf; obtain ⟨L11, hL11, hf⟩ := hf
  refine x_last (pc := 28) X V htj10 hij10 hjj10 hL11 dX0_tellsOrder_28 (fun H locs V => ?_)
  refine lv_aload (pc := 29) hx hb dX0_tellsOrder_29 (lv_at hl 0 rfl) ?_
  refine lv_iconst (pc := 31) (v := (ii 2)) hx hb dX0_tellsOrder_31 (by decide) ?_
  refine lv_iload_n (pc := 32) hx hb dX0_tellsOrder_32 rfl (lv_at hl 4 rfl) ?_
  refine lv_i2l (pc := 33) hx hb dX0_tellsOrder_33 rfl ?_
  replace hf := rA_s hf; obtain ⟨j12, hjj12, htj12, hij12, hf⟩ := hf
  replace hf := nm_s hf; obtain ⟨L13, hL13, hf⟩ := hf
  refine x_last (pc := 34) X V htj12 hij12 hjj12 hL13 dX0_tellsOrder_34 (fun H locs V => ?_)
  refine lv_aload (pc := 35) hx hb dX0_tellsOrder_35 (lv_at hl 0 rfl) ?_
  refine lv_iconst (pc := 37) (v := (ii 3)) hx hb dX0_tellsOrder_37 (by decide) ?_
  refine lv_aload_n (pc := 38) hx hb dX0_tellsOrder_38 rfl (lv_at hl 1 rfl) ?_
  refine lv_aload_n (pc := 39) hx hb dX0_tellsOrder_39 rfl (lv_at hl 2 rfl) ?_
  replace hf := bs hf; obtain ⟨a14, ha14, hf⟩ := hf
  refine x_get (pc := 40) X V okX0 ht3 2 (by decide) q362 (v := va_rf (R x0 2)) rfl dX0_tellsOrder_40 ?_
  refine x_topr ha14 ?_
  replace hf := tg_s hf; obtain ⟨ht15, hf⟩ := hf
  refine x_getN (pc := 43) X V okX1 ht15 8 (by decide) q238 (v := .int (I a14 8)) rfl dX0_tellsOrder_43 ?_
  replace hf := bs hf; obtain ⟨r16, hk_17, hf⟩ := hf
  refine x_callV0 (pc := 46) (As := [.int (I a14 8)]) (rest := [.int (ii 3), .ref a6]) X V (mX2_namedOf l D dA s0 hk_17) okX2 ht7 q1447 q1448 q1449 q121 q1450 ⟨rfl, hsX2_namedOf⟩ ⟨Nat.le_of_ble_eq_true rfl, Nat.le_of_ble_eq_true rfl⟩ rfl hl.1 rfl (Nat.le_of_ble_eq_true rfl) dX0_tellsOrder_46 ⟨Nat.zero_le _, Nat.zero_le _⟩ (fun H locs V => W.eq (g2 := F0 m 49 ls [.int r16, .int (ii 3), .ref a6]) rfl ?_)
  refine lv_i2l (pc := 49) hx hb dX0_tellsOrder_49 rfl ?_
  replace hf := rA_s hf; obtain ⟨j18, hjj18, htj18, hij18, hf⟩ := hf
  replace hf := nm_s hf; obtain ⟨L19, hL19, hf⟩ := hf
  refine x_last (pc := 50) X V htj18 hij18 hjj18 hL19 dX0_tellsOrder_50 (fun H locs V => ?_)
  refine lv_aload (pc := 51) hx hb dX0_tellsOrder_51 (lv_at hl 0 rfl) ?_
  refine lv_iconst (pc := 53) (v := (ii 4)) hx hb dX0_tellsOrder_53 (by decide) ?_
  refine lv_aload_n (pc := 54) hx hb dX0_tellsOrder_54 rfl (lv_at hl 2 rfl) ?_
  refine x_get (pc := 55) X V okX0 ht3 2 (by decide) q362 (v := va_rf (R x0 2)) rfl dX0_tellsOrder_55 ?_
  refine x_topr ha14 ?_
  refine x_getN (pc := 58) X V okX1 ht15 9 (by decide) q240 (v := .int (I a14 9)) rfl dX0_tellsOrder_58 ?_
  refine lv_i2l (pc := 61) hx hb dX0_tellsOrder_61 rfl ?_
  replace hf := rA_s hf; obtain ⟨j20, hjj20, htj20, hij20, hf⟩ := hf
  replace hf := nm_s hf; obtain ⟨L21, hL21, hf⟩ := hf
  refine x_last (pc := 62) X V htj20 hij20 hjj20 hL21 dX0_tellsOrder_62 (fun H locs V => ?_)
  refine lv_iconst (pc := 63) (v := (ii 0)) hx hb dX0_tellsOrder_63 (by decide) ?_
  refine lv_istore (pc := 64) (lv' := [(5, .int (ii 0)), (4, .ref a6), (3, .ref r1), (0, .ref x0), (1, .int x1), (2, .int x2)]) hx hb dX0_tellsOrder_64 hl (by decide) rfl (fun ls hl => ?_)
  exact wX0_tellsOrder_b66 X hr nf hf V (lv_sub hl [3, 2, 1, 0] rfl)
theorem mX0_tellsOrder {nf : Nat} (l : Launch) (D : va_G) (dA : Nat → ClassId) (s0 : Nat) {T : xT} {N : xT} {Z : Nat} {I : xI} {L : xL} {R : xR} {x0 : Nat} {x1 : Int32} {x2 : Int32} {Lo : xL} (hf : fX0_tellsOrder nf T N I L R x0 x1 x2 = some Lo) : XMet l D dA s0 yX0_tellsOrder (ws_ yX0_tellsOrder cX0_tellsOrder 6 (none)) (2) (43) [.ref x0, .int x1, .int x2] T N Z I L R none T N Z I Lo R 0 0 :=
  x_start (own := RX0) rfl (by decide) (Nat.le_of_ble_eq_true rfl) (lv := [(0, .ref x0), (1, .int x1), (2, .int x2)]) rfl (fun p e s m below meth c ls X hr hini V hl => wX0_tellsOrder_e X hr hf V hl)
set_option maxHeartbeats 400000 in
set_option maxRecDepth 100000 in
theorem wX0_runsOrder_e {nf : Nat} {p : Program} {l : Launch} {e : Env} {s : State} {m : MethodId} {args : Array Value} {below : List Frame} {meth : Method} {c : Code} {D : va_G} {dA : Nat → ClassId} {s0 : Nat} {T : xT} {N : xT} {Z : Nat} {I : xI} {L : xL} {R : xR} {H : Heap} {locs : List Loc} {ls : Array Slot} {x0 : Nat} {x1 : Nat} {ro : Int32} {Io : xI} {Lo : xL} {Ro : xR} (X : Cx D dA s0 p m c cX0_runsOrder 3 s args RX0 meth) (hr : meth.sig.returnType = (some .int)) (hf : fX0_runsOrder nf T N I L R x0 x1 = some (ro, Io, Lo, Ro)) (V : Iv D dA s0 s T N Z I L R H locs) (hl : lv_has ls 3 [(0, .ref x0), (1, .ref x1)]) : W p l e { frames := 196, cells := 0, slots := 0, locals := 9472 } s m args below meth c H locs 0 0 (MQ below (xQ D dA s0 (some (.int ro)) T N Z Io Lo Ro) args s 0 0 (fun q => s0 ≤ q)) (F0 m 0 ls []) := by
  have hx := X.1.1
  have hb := X.1.2.1
  unfold fX0_runsOrder at hf
  refine lv_aload_n (pc := 0) hx hb dX0_runsOrder_0 rfl (lv_at hl 1 rfl) ?_
  replace hf := tg_s hf; obtain ⟨ht1, hf⟩ := hf
  refine x_getN (pc := 1) X V okX18 ht1 0 (by decide) q1150 (v := .int (I x1 0)) rfl dX0_runsOrder_1 ?_
  refine lv_iconst (pc := 4) (v := (ii 3)) hx hb dX0_runsOrder_4 (by decide) ?_
  refine lv_icmp_ne (pc := 5) (tgt := 13) hx hb dX0_runsOrder_5 (by decide) (fun c2 => ?_) (fun c2 => ?_)
  · replace hf := if_f hf c2
    refine lv_aload_n (pc := 13) hx hb dX0_runsOrder_13 rfl (lv_at hl 1 rfl) ?_
    replace hf := bs hf; obtain ⟨a3, ha3, hf⟩ := hf
    refine x_getN (pc := 14) X V okX18 ht1 1 (by decide) q1152 (v := va_rf (R x1 1)) rfl dX0_runsOrder_14 ?_
    refine x_topr ha3 ?_
    refine lv_aload_n (pc := 17) hx hb dX0_runsOrder_17 rfl (lv_at hl 0 rfl) ?_
    replace hf := tg_s hf; obtain ⟨ht4, hf⟩ := hf
    replace hf := bs hf; obtain ⟨a5, ha5, hf⟩ := hf
    refine x_get (pc := 18) X V okX0 ht4 16 (by decide) q376 (v := va_rf (R x0 16)) rfl dX0_runsOrder_18 ?_
    refine x_topr ha5 ?_
    replace hf := bs hf; obtain ⟨r6, hk_7, hf⟩ := hf
    refine y_afterR (y_runSX (pc := 21) (As := [.ref a3, .ref a5]) (rest := []) X V (mX18_told l D dA s0 hk_7) q1461 q1462 q151 q1463 hsX18_told ⟨Nat.le_of_ble_eq_true rfl, Nat.le_of_ble_eq_true rfl⟩ rfl hl.1 rfl (Nat.le_of_ble_eq_true rfl) dX0_runsOrder_21 ⟨Nat.zero_le _, Nat.zero_le _⟩) V (fun H locs V => W.eq (g2 := F0 m 24 ls [.int r6]) rfl ?_)
    refine lv_istore_n (pc := 24) (lv' := [(2, .int r6), (0, .ref x0), (1, .ref x1)]) hx hb dX0_runsOrder_24 rfl hl (by decide) rfl (fun ls hl => ?_)
    refine lv_aload_n (pc := 25) hx hb dX0_runsOrder_25 rfl (lv_at hl 2 rfl) ?_
    refine x_getN (pc := 26) X V okX18 ht1 0 (by decide) q1150 (v := .int (I x1 0)) rfl dX0_runsOrder_26 ?_
    refine lv_iconst (pc := 29) (v := (ii 2)) hx hb dX0_runsOrder_29 (by decide) ?_
    refine lv_icmp_ne (pc := 30) (tgt := 50) hx hb dX0_runsOrder_30 (by decide) (fun c8 => ?_) (fun c8 => ?_)
    · replace hf := if_f hf c8
      refine lv_aload_n (pc := 50) hx hb dX0_runsOrder_50 rfl (lv_at hl 2 rfl) ?_
      refine x_getN (pc := 51) X V okX18 ht1 0 (by decide) q1150 (v := .int (I x1 0)) rfl dX0_runsOrder_51 ?_
      refine lv_if_ne (pc := 54) (tgt := 65) hx hb dX0_runsOrder_54 (by decide) (fun c9 => ?_) (fun c9 => ?_)
      · replace hf := if_f hf c9
        refine lv_aload_n (pc := 65) hx hb dX0_runsOrder_65 rfl (lv_at hl 1 rfl) ?_
        refine lv_iload_n (pc := 66) hx hb dX0_runsOrder_66 rfl (lv_at hl 0 rfl) ?_
        replace hf := b4s hf; obtain ⟨r10, I11, L12, R13, hk_14, hf⟩ := hf
        refine x_callV0 (pc := 67) (As := [.int r6]) (rest := []) X V (mX0_criesKept l D dA s0 hk_14) okX0 ht4 q1244 q1246 qs23 q119 q1247 ⟨rfl, hsX0_criesKept⟩ ⟨Nat.le_of_ble_eq_true rfl, Nat.le_of_ble_eq_true rfl⟩ rfl hl.1 rfl (Nat.le_of_ble_eq_true rfl) dX0_runsOrder_67 ⟨Nat.zero_le _, Nat.zero_le _⟩ (fun H locs V => W.eq (g2 := F0 m 70 ls [.int r10]) rfl ?_)
        cases hf
        exact x_iret (pc := 70) X V hr dX0_runsOrder_70
      · replace hf := if_t hf c9
        refine lv_aload_n (pc := 57) hx hb dX0_runsOrder_57 rfl (lv_at hl 1 rfl) ?_
        refine lv_iload_n (pc := 58) hx hb dX0_runsOrder_58 rfl (lv_at hl 0 rfl) ?_
        replace hf := b4s hf; obtain ⟨r15, I16, L17, R18, hk_19, hf⟩ := hf
        refine x_callV0 (pc := 59) (As := [.int r6]) (rest := []) X V (mX0_wandersKept l D dA s0 hk_19) okX0 ht4 q1219 q1221 qs19 q119 q1222 ⟨rfl, hsX0_wandersKept⟩ ⟨Nat.le_of_ble_eq_true rfl, Nat.le_of_ble_eq_true rfl⟩ rfl hl.1 rfl (Nat.le_of_ble_eq_true rfl) dX0_runsOrder_59 ⟨Nat.zero_le _, Nat.zero_le _⟩ (fun H locs V => W.eq (g2 := F0 m 62 ls [.int r15]) rfl ?_)
        refine lv_goto (pc := 62) (tgt := 70) hx hb dX0_runsOrder_62 (by decide) ?_
        cases hf
        exact x_iret (pc := 70) X V hr dX0_runsOrder_70
    · replace hf := if_t hf c8
      refine lv_aload_n (pc := 33) hx hb dX0_runsOrder_33 rfl (lv_at hl 1 rfl) ?_
      refine lv_iload_n (pc := 34) hx hb dX0_runsOrder_34 rfl (lv_at hl 0 rfl) ?_
      refine lv_aload_n (pc := 35) hx hb dX0_runsOrder_35 rfl (lv_at hl 2 rfl) ?_
      replace hf := bs hf; obtain ⟨a20, ha20, hf⟩ := hf
      refine x_getN (pc := 36) X V okX18 ht1 2 (by decide) q1154 (v := va_rf (R x1 2)) rfl dX0_runsOrder_36 ?_
      refine x_topr ha20 ?_
      refine lv_aload_n (pc := 39) hx hb dX0_runsOrder_39 rfl (lv_at hl 1 rfl) ?_
      refine x_get (pc := 40) X V okX0 ht4 16 (by decide) q376 (v := va_rf (R x0 16)) rfl dX0_runsOrder_40 ?_
      refine x_topr ha5 ?_
      replace hf := bs hf; obtain ⟨r21, hk_22, hf⟩ := hf
      refine y_afterR (y_runSX (pc := 43) (As := [.ref a20, .ref a5]) (rest := [.int r6, .ref x0]) X V (mX18_told l D dA s0 hk_22) q1461 q1462 q151 q1463 hsX18_told ⟨Nat.le_of_ble_eq_true rfl, Nat.le_of_ble_eq_true rfl⟩ rfl hl.1 rfl (Nat.le_of_ble_eq_true rfl) dX0_runsOrder_43 ⟨Nat.zero_le _, Nat.zero_le _⟩) V (fun H locs V => W.eq (g2 := F0 m 46 ls [.int r21, .int r6, .ref x0]) rfl ?_)
      replace hf := b3s hf; obtain ⟨r23, I24, R25, hk_26, hf⟩ := hf
      refine x_callV0 (pc := 46) (As := [.int r6, .int r21]) (rest := []) X V (mX0_leadsKept l D dA s0 hk_26) okX0 ht4 q1256 q1258 qs25 q119 q1259 ⟨rfl, hsX0_leadsKept⟩ ⟨Nat.le_of_ble_eq_true rfl, Nat.le_of_ble_eq_true rfl⟩ rfl hl.1 rfl (Nat.le_of_ble_eq_true rfl) dX0_runsOrder_46 ⟨Nat.zero_le _, Nat.zero_le _⟩ (fun H locs V => W.eq (g2 := F0 m 49 ls [.int r23]) rfl ?_)
      cases hf
      exact x_iret (pc := 49) X V hr dX0_runsOrder_49
  · replace hf := if_t hf c2
    refine lv_aload_n (pc := 8) hx hb dX0_runsOrder_8 rfl (lv_at hl 0 rfl) ?_
    replace hf := tg_s hf; obtain ⟨ht32, hf⟩ := hf
    replace hf := b4s hf; obtain ⟨r27, I28, L29, R30, hk_31, hf⟩ := hf
    refine x_callV0 (pc := 9) (As := []) (rest := []) X V (mX0_passesKept l D dA s0 hk_31) okX0 ht32 q1264 q1266 qs26 q119 q1267 ⟨rfl, hsX0_passesKept⟩ ⟨Nat.le_of_ble_eq_true rfl, Nat.le_of_ble_eq_true rfl⟩ rfl hl.1 rfl (Nat.le_of_ble_eq_true rfl) dX0_runsOrder_9 ⟨Nat.zero_le _, Nat.zero_le _⟩ (fun H locs V => W.eq (g2 := F0 m 12 ls [.int r27]) rfl ?_)
    cases hf
    exact x_iret (pc := 12) X V hr dX0_runsOrder_12
theorem mX0_runsOrder {nf : Nat} (l : Launch) (D : va_G) (dA : Nat → ClassId) (s0 : Nat) {T : xT} {N : xT} {Z : Nat} {I : xI} {L : xL} {R : xR} {x0 : Nat} {x1 : Nat} {ro : Int32} {Io : xI} {Lo : xL} {Ro : xR} (hf : fX0_runsOrder nf T N I L R x0 x1 = some (ro, Io, Lo, Ro)) : XMet l D dA s0 yX0_runsOrder (ws_ yX0_runsOrder cX0_runsOrder 3 ((some .int))) (196) (9472) [.ref x0, .ref x1] T N Z I L R (some (.int ro)) T N Z Io Lo Ro 0 0 :=
  x_start (own := RX0) rfl (by decide) (Nat.le_of_ble_eq_true rfl) (lv := [(0, .ref x0), (1, .ref x1)]) rfl (fun p e s m below meth c ls X hr hini V hl => wX0_runsOrder_e X hr hf V hl)
set_option maxHeartbeats 400000 in
set_option maxRecDepth 100000 in
theorem wX0_putsBack_b13 {nf : Nat} {p : Program} {l : Launch} {e : Env} {s : State} {m : MethodId} {args : Array Value} {below : List Frame} {meth : Method} {c : Code} {D : va_G} {dA : Nat → ClassId} {s0 : Nat} {T : xT} {N : xT} {Z : Nat} {L : xL} {R : xR}  {Io : xI} (X : Cx D dA s0 p m c cX0_putsBack 3 s args RX0 meth) (hr : meth.sig.returnType = none)   (k : Nat) : ∀ {I : xI} {x0 : Nat} {x1 : Int32} {x2 : Int32} {H : Heap} {locs : List Loc} {ls : Array Slot} , fX0_putsBack_b13 nf T N R k I x0 x1 x2 = some Io → Iv D dA s0 s T N Z I L R H locs → lv_has ls 3 [(0, .ref x0), (1, .int x1), (2, .int x2)] → W p l e { frames := 3, cells := 0, slots := 0, locals := 102 } s m args below meth c H locs 0 0 (MQ below (xQ D dA s0 none T N Z Io L R) args s 0 0 (fun q => s0 ≤ q)) (F0 m 13 ls []) := by
  have hx := X.1.1
  have hb := X.1.2.1
  induction k with
  | zero =>
    intro I x0 x1 x2 H locs ls hf V hl
    exact absurd (show none = some _ from hf) (fun q => nomatch q)
  | succ k ih =>
    intro I x0 x1 x2 H locs ls hf V hl
    rw [fX0_putsBack_b13] at hf
    refine lv_iload_n (pc := 13) hx hb dX0_putsBack_13 rfl (lv_at hl 2 rfl) ?_
    refine lv_iload_n (pc := 14) hx hb dX0_putsBack_14 rfl (lv_at hl 1 rfl) ?_
    refine lv_icmp_ge (pc := 15) (tgt := 39) hx hb dX0_putsBack_15 (by decide) (fun c1 => ?_) (fun c1 => ?_)
    · replace hf := if_t hf c1
      refine lv_aload_n (pc := 39) hx hb dX0_putsBack_39 rfl (lv_at hl 0 rfl) ?_
      replace hf := tg_s hf; obtain ⟨ht2, hf⟩ := hf
      replace hf := bs hf; obtain ⟨a3, ha3, hf⟩ := hf
      refine x_get (pc := 40) X V okX0 ht2 7 (by decide) q367 (v := va_rf (R x0 7)) rfl dX0_putsBack_40 ?_
      refine x_topr ha3 ?_
      refine lv_iconst (pc := 43) (v := (ii 0)) hx hb dX0_putsBack_43 (by decide) ?_
      refine lv_aload_n (pc := 44) hx hb dX0_putsBack_44 rfl (lv_at hl 0 rfl) ?_
      replace hf := bs hf; obtain ⟨a4, ha4, hf⟩ := hf
      refine x_get (pc := 45) X V okX0 ht2 6 (by decide) q366 (v := va_rf (R x0 6)) rfl dX0_putsBack_45 ?_
      refine x_topr ha4 ?_
      refine lv_iconst (pc := 48) (v := (ii 0)) hx hb dX0_putsBack_48 (by decide) ?_
      refine lv_bipush (pc := 49) (v := (ii 16)) hx hb dX0_putsBack_49 (by decide) ?_
      replace hf := tg_s hf; obtain ⟨ht5, hf⟩ := hf
      replace hf := tg_s hf; obtain ⟨ht6, hf⟩ := hf
      replace hf := chk_s hf; obtain ⟨hq7, hf⟩ := hf
      replace hf := nm_s hf; obtain ⟨I8, hI8, hf⟩ := hf
      refine x_copyi (pc := 51) X V q1351 q469 q468 q150 ht5 ht6 hq7 hI8 hl.1 (Nat.le_of_ble_eq_true rfl) (Nat.le_of_ble_eq_true rfl) dX0_putsBack_51 (fun H locs V => ?_)
      refine lv_aload_n (pc := 54) hx hb dX0_putsBack_54 rfl (lv_at hl 0 rfl) ?_
      refine lv_iload_n (pc := 55) hx hb dX0_putsBack_55 rfl (lv_at hl 1 rfl) ?_
      replace hf := nm_s hf; obtain ⟨I9, hI9, hf⟩ := hf
      refine x_puti (pc := 56) X V okX0 (by decide) ht2 15 (by decide) q375 (Or.inl rfl) hI9 (fun _ _ _ => rfl) rfl rfl dX0_putsBack_56 (fun H locs V => ?_)
      cases hf
      exact x_vret (pc := 59) X V hr dX0_putsBack_59
    · replace hf := if_f hf c1
      refine lv_aload_n (pc := 18) hx hb dX0_putsBack_18 rfl (lv_at hl 0 rfl) ?_
      replace hf := tg_s hf; obtain ⟨ht10, hf⟩ := hf
      replace hf := bs hf; obtain ⟨a11, ha11, hf⟩ := hf
      refine x_get (pc := 19) X V okX0 ht10 4 (by decide) q364 (v := va_rf (R x0 4)) rfl dX0_putsBack_19 ?_
      refine x_topr ha11 ?_
      refine lv_iload_n (pc := 22) hx hb dX0_putsBack_22 rfl (lv_at hl 2 rfl) ?_
      replace hf := rA_s hf; obtain ⟨j12, hjj12, htj12, hij12, hf⟩ := hf
      refine x_aald (pc := 23) X V (k := 6) rfl (by decide) htj12 hij12 hjj12 dX0_putsBack_23 ?_
      replace hf := bs hf; obtain ⟨a13, ha13, hf⟩ := hf
      refine x_topr ha13 ?_
      refine lv_aload_n (pc := 24) hx hb dX0_putsBack_24 rfl (lv_at hl 0 rfl) ?_
      replace hf := bs hf; obtain ⟨a14, ha14, hf⟩ := hf
      refine x_get (pc := 25) X V okX0 ht10 5 (by decide) q365 (v := va_rf (R x0 5)) rfl dX0_putsBack_25 ?_
      refine x_topr ha14 ?_
      refine lv_iload_n (pc := 28) hx hb dX0_putsBack_28 rfl (lv_at hl 2 rfl) ?_
      replace hf := rA_s hf; obtain ⟨j15, hjj15, htj15, hij15, hf⟩ := hf
      refine x_aald (pc := 29) X V (k := 6) rfl (by decide) htj15 hij15 hjj15 dX0_putsBack_29 ?_
      replace hf := bs hf; obtain ⟨a16, ha16, hf⟩ := hf
      refine x_topr ha16 ?_
      replace hf := tg_s hf; obtain ⟨ht19, hf⟩ := hf
      replace hf := bs hf; obtain ⟨I17, hk_18, hf⟩ := hf
      refine x_callV0 (pc := 30) (As := [.ref a16]) (rest := []) X V (mX2_takes l D dA s0 hk_18) okX2 ht19 q1227 q461 q462 q121 q463 ⟨rfl, hsX2_takes⟩ ⟨Nat.le_of_ble_eq_true rfl, Nat.le_of_ble_eq_true rfl⟩ rfl hl.1 rfl (Nat.le_of_ble_eq_true rfl) dX0_putsBack_30 ⟨Nat.zero_le _, Nat.zero_le _⟩ (fun H locs V => W.eq (g2 := F0 m 33 ls []) rfl ?_)
      replace hf := nm_s hf; obtain ⟨u20, hu20, hf⟩ := hf
      refine lv_iinc (pc := 33) (v := u20) (lv' := [(2, .int u20), (0, .ref x0), (1, .int x1)]) hx hb dX0_putsBack_33 hl (k := 2) rfl (by rw [hu20]; rfl) (by decide) rfl (fun ls hl => ?_)
      refine lv_goto (pc := 36) (tgt := 13) hx hb dX0_putsBack_36 (by decide) ?_
      exact ih hf V (lv_sub hl [1, 2, 0] rfl)
set_option maxHeartbeats 400000 in
set_option maxRecDepth 100000 in
theorem wX0_putsBack_e {nf : Nat} {p : Program} {l : Launch} {e : Env} {s : State} {m : MethodId} {args : Array Value} {below : List Frame} {meth : Method} {c : Code} {D : va_G} {dA : Nat → ClassId} {s0 : Nat} {T : xT} {N : xT} {Z : Nat} {I : xI} {L : xL} {R : xR} {H : Heap} {locs : List Loc} {ls : Array Slot} {x0 : Nat} {x1 : Int32} {Io : xI} (X : Cx D dA s0 p m c cX0_putsBack 3 s args RX0 meth) (hr : meth.sig.returnType = none) (hf : fX0_putsBack nf T N I R x0 x1 = some Io) (V : Iv D dA s0 s T N Z I L R H locs) (hl : lv_has ls 3 [(0, .ref x0), (1, .int x1)]) : W p l e { frames := 3, cells := 0, slots := 0, locals := 102 } s m args below meth c H locs 0 0 (MQ below (xQ D dA s0 none T N Z Io L R) args s 0 0 (fun q => s0 ≤ q)) (F0 m 0 ls []) := by
  have hx := X.1.1
  have hb := X.1.2.1
  unfold fX0_putsBack at hf
  refine lv_aload_n (pc := 0) hx hb dX0_putsBack_0 rfl (lv_at hl 0 rfl) ?_
  replace hf := tg_s hf; obtain ⟨ht3, hf⟩ := hf
  replace hf := bs hf; obtain ⟨r1, hk_2, hf⟩ := hf
  refine x_callV0 (pc := 1) (As := []) (rest := []) X V (mX0_table l D dA s0 hk_2) okX0 ht3 q568 q570 qs6 q119 q571 ⟨rfl, hsX0_table⟩ ⟨Nat.le_of_ble_eq_true rfl, Nat.le_of_ble_eq_true rfl⟩ rfl hl.1 rfl (Nat.le_of_ble_eq_true rfl) dX0_putsBack_1 ⟨Nat.zero_le _, Nat.zero_le _⟩ (fun H locs V => W.eq (g2 := F0 m 4 ls [.ref r1]) rfl ?_)
  refine lv_aload_n (pc := 4) hx hb dX0_putsBack_4 rfl (lv_at hl 0 rfl) ?_
  replace hf := bs hf; obtain ⟨a4, ha4, hf⟩ := hf
  refine x_get (pc := 5) X V okX0 ht3 8 (by decide) q368 (v := va_rf (R x0 8)) rfl dX0_putsBack_5 ?_
  refine x_topr ha4 ?_
  replace hf := tg_s hf; obtain ⟨ht7, hf⟩ := hf
  replace hf := bs hf; obtain ⟨I5, hk_6, hf⟩ := hf
  refine x_callV0 (pc := 8) (As := [.ref a4]) (rest := []) X V (mX2_takes l D dA s0 hk_6) okX2 ht7 q1227 q461 q462 q121 q463 ⟨rfl, hsX2_takes⟩ ⟨Nat.le_of_ble_eq_true rfl, Nat.le_of_ble_eq_true rfl⟩ rfl hl.1 rfl (Nat.le_of_ble_eq_true rfl) dX0_putsBack_8 ⟨Nat.zero_le _, Nat.zero_le _⟩ (fun H locs V => W.eq (g2 := F0 m 11 ls []) rfl ?_)
  refine lv_iconst (pc := 11) (v := (ii 0)) hx hb dX0_putsBack_11 (by decide) ?_
  refine lv_istore_n (pc := 12) (lv' := [(2, .int (ii 0)), (0, .ref x0), (1, .int x1)]) hx hb dX0_putsBack_12 rfl hl (by decide) rfl (fun ls hl => ?_)
  exact wX0_putsBack_b13 X hr nf hf V (lv_sub hl [1, 2, 0] rfl)
theorem mX0_putsBack {nf : Nat} (l : Launch) (D : va_G) (dA : Nat → ClassId) (s0 : Nat) {T : xT} {N : xT} {Z : Nat} {I : xI} {L : xL} {R : xR} {x0 : Nat} {x1 : Int32} {Io : xI} (hf : fX0_putsBack nf T N I R x0 x1 = some Io) : XMet l D dA s0 yX0_putsBack (ws_ yX0_putsBack cX0_putsBack 3 (none)) (3) (102) [.ref x0, .int x1] T N Z I L R none T N Z Io L R 0 0 :=
  x_start (own := RX0) rfl (by decide) (Nat.le_of_ble_eq_true rfl) (lv := [(0, .ref x0), (1, .int x1)]) rfl (fun p e s m below meth c ls X hr hini V hl => wX0_putsBack_e X hr hf V hl)
set_option maxHeartbeats 400000 in
set_option maxRecDepth 100000 in
theorem zX0_orders_b143 {nf : Nat} {dA : Nat → ClassId}  {kk114 : xT → xT → Nat → Nat → xI → xL → xR → Nat → Nat → Int32 → Int32 → Int32 → Int32 → Option (Int32 × xT × xT × Nat × Nat × xI × xL × xR)} {ro : Int32} {To : xT} {No : xT} {Zo : Nat} {So : Nat} {Io : xI} {Lo : xL} {Ro : xR} (hm114 : ∀ {T : xT} {N : xT} {Z : Nat} {S : Nat} {I : xI} {L : xL} {R : xR} {x0 : Nat} {x2 : Nat} {x3 : Int32} {x4 : Int32} {x5 : Int32} {x6 : Int32}, kk114 T N Z S I L R x0 x2 x3 x4 x5 x6 = some (ro, To, No, Zo, So, Io, Lo, Ro) → Z ≤ Zo ∧ S ≤ So) (k : Nat) : ∀ {T : xT} {N : xT} {Z : Nat} {S : Nat} {I : xI} {L : xL} {R : xR} {x0 : Nat} {x2 : Nat} {x3 : Int32} {x4 : Int32} {x5 : Int32} {x6 : Int32} {x7 : Nat} {x8 : Int32}, fX0_orders_b143 nf kk114 (sv dA) k T N Z S I L R x0 x2 x3 x4 x5 x6 x7 x8 = some (ro, To, No, Zo, So, Io, Lo, Ro) → Z ≤ Zo ∧ S ≤ So := by
  induction k with
  | zero =>
    intro T N Z S I L R x0 x2 x3 x4 x5 x6 x7 x8 hf
    exact absurd (show none = some _ from hf) (fun q => nomatch q)
  | succ k ih =>
    intro T N Z S I L R x0 x2 x3 x4 x5 x6 x7 x8 hf
    rw [fX0_orders_b143] at hf
    replace hf := tg_s hf; obtain ⟨ht1, hf⟩ := hf
    rcases (Decidable.em ((I x7 3) ≤ x8)) with c2 | c2
    · replace hf := if_t hf c2
      replace hf := nm_s hf; obtain ⟨u3, hu3, hf⟩ := hf
      have hm := hm114 hf
      exact ⟨by omega, by omega⟩
    · replace hf := if_f hf c2
      replace hf := tg_s hf; obtain ⟨ht6, hf⟩ := hf
      replace hf := bs hf; obtain ⟨L4, hk_5, hf⟩ := hf
      replace hf := bs hf; obtain ⟨a7, ha7, hf⟩ := hf
      replace hf := bs hf; obtain ⟨r8, hk_9, hf⟩ := hf
      rcases (Decidable.em (r8 = (ii 0))).symm with c10 | c10
      · replace hf := if_f hf c10
        replace hf := b4s hf; obtain ⟨r11, I12, L13, R14, hk_15, hf⟩ := hf
        rcases (Decidable.em ((ii 0) ≤ r11)) with c16 | c16
        · replace hf := if_t hf c16
          rcases (Decidable.em ((I12 x7 0) = (ii 1))).symm with c17 | c17
          · replace hf := if_f hf c17
            replace hf := nm_s hf; obtain ⟨u18, hu18, hf⟩ := hf
            replace hf := nm_s hf; obtain ⟨u19, hu19, hf⟩ := hf
            have hm := ih hf
            exact ⟨by omega, by omega⟩
          · replace hf := if_t hf c17
            replace hf := nm_s hf; obtain ⟨u20, hu20, hf⟩ := hf
            replace hf := nm_s hf; obtain ⟨u21, hu21, hf⟩ := hf
            have hm := ih hf
            exact ⟨by omega, by omega⟩
        · replace hf := if_f hf c16
          replace hf := bs hf; obtain ⟨I22, hk_23, hf⟩ := hf
          replace hf := nm_s hf; obtain ⟨I24, hI24, hf⟩ := hf
          replace hf := b2s hf; obtain ⟨r25, I26, hk_27, hf⟩ := hf
          cases hf
          exact ⟨Nat.le_refl _, Nat.le_refl _⟩
      · replace hf := if_t hf c10
        replace hf := nm_s hf; obtain ⟨u28, hu28, hf⟩ := hf
        have hm := ih hf
        exact ⟨by omega, by omega⟩
set_option maxHeartbeats 400000 in
set_option maxRecDepth 100000 in
theorem wX0_orders_b143 {nf : Nat} {kc ks : Nat} {p : Program} {l : Launch} {e : Env} {s : State} {m : MethodId} {args : Array Value} {below : List Frame} {meth : Method} {c : Code} {D : va_G} {dA : Nat → ClassId} {s0 : Nat}  {kk114 : xT → xT → Nat → Nat → xI → xL → xR → Nat → Nat → Int32 → Int32 → Int32 → Int32 → Option (Int32 × xT × xT × Nat × Nat × xI × xL × xR)} {ro : Int32} {To : xT} {No : xT} {Zo : Nat} {So : Nat} {Io : xI} {Lo : xL} {Ro : xR} (X : Cx D dA s0 p m c cX0_orders 10 s args RX0 meth) (hr : meth.sig.returnType = (some .int)) (hk114 : ∀ {T : xT} {N : xT} {Z : Nat} {S : Nat} {I : xI} {L : xL} {R : xR} {x0 : Nat} {x2 : Nat} {x3 : Int32} {x4 : Int32} {x5 : Int32} {x6 : Int32} {H : Heap} {locs : List Loc} {ls : Array Slot} {cells slots : Nat} , kk114 T N Z S I L R x0 x2 x3 x4 x5 x6 = some (ro, To, No, Zo, So, Io, Lo, Ro) → Iv D dA s0 s T N Z I L R H locs → lv_has ls 10 [(0, .ref x0), (2, .ref x2), (3, .int x3), (4, .int x4), (5, .int x5), (6, .int x6)] → cells + (Zo - Z) ≤ kc ∧ slots + (So - S) ≤ ks → W p l e { frames := 1492, cells := kc, slots := ks, locals := 31958 } s m args below meth c H locs cells slots (MQ below (xQ D dA s0 (some (.int ro)) To No Zo Io Lo Ro) args s kc ks (fun q => s0 ≤ q)) (F0 m 114 ls [])) (hm114 : ∀ {T : xT} {N : xT} {Z : Nat} {S : Nat} {I : xI} {L : xL} {R : xR} {x0 : Nat} {x2 : Nat} {x3 : Int32} {x4 : Int32} {x5 : Int32} {x6 : Int32}, kk114 T N Z S I L R x0 x2 x3 x4 x5 x6 = some (ro, To, No, Zo, So, Io, Lo, Ro) → Z ≤ Zo ∧ S ≤ So) (k : Nat) : ∀ {T : xT} {N : xT} {Z : Nat} {S : Nat} {I : xI} {L : xL} {R : xR} {x0 : Nat} {x2 : Nat} {x3 : Int32} {x4 : Int32} {x5 : Int32} {x6 : Int32} {x7 : Nat} {x8 : Int32} {H : Heap} {locs : List Loc} {ls : Array Slot} {cells slots : Nat} , fX0_orders_b143 nf kk114 (sv dA) k T N Z S I L R x0 x2 x3 x4 x5 x6 x7 x8 = some (ro, To, No, Zo, So, Io, Lo, Ro) → Iv D dA s0 s T N Z I L R H locs → lv_has ls 10 [(0, .ref x0), (2, .ref x2), (3, .int x3), (4, .int x4), (5, .int x5), (6, .int x6), (7, .ref x7), (8, .int x8)] → cells + (Zo - Z) ≤ kc ∧ slots + (So - S) ≤ ks → W p l e { frames := 1492, cells := kc, slots := ks, locals := 31958 } s m args below meth c H locs cells slots (MQ below (xQ D dA s0 (some (.int ro)) To No Zo Io Lo Ro) args s kc ks (fun q => s0 ≤ q)) (F0 m 143 ls []) := by
  have hx := X.1.1
  have hb := X.1.2.1
  induction k with
  | zero =>
    intro T N Z S I L R x0 x2 x3 x4 x5 x6 x7 x8 H locs ls cells slots hf V hl hB
    exact absurd (show none = some _ from hf) (fun q => nomatch q)
  | succ k ih =>
    intro T N Z S I L R x0 x2 x3 x4 x5 x6 x7 x8 H locs ls cells slots hf V hl hB
    have ihm : ∀ {T : xT} {N : xT} {Z : Nat} {S : Nat} {I : xI} {L : xL} {R : xR} {x0 : Nat} {x2 : Nat} {x3 : Int32} {x4 : Int32} {x5 : Int32} {x6 : Int32} {x7 : Nat} {x8 : Int32}, fX0_orders_b143 nf kk114 (sv dA) k T N Z S I L R x0 x2 x3 x4 x5 x6 x7 x8 = some (ro, To, No, Zo, So, Io, Lo, Ro) → Z ≤ Zo ∧ S ≤ So := zX0_orders_b143 hm114 k
    rw [fX0_orders_b143] at hf
    refine lv_iload (pc := 143) hx hb dX0_orders_143 (lv_at hl 7 rfl) ?_
    refine lv_aload (pc := 145) hx hb dX0_orders_145 (lv_at hl 6 rfl) ?_
    replace hf := tg_s hf; obtain ⟨ht1, hf⟩ := hf
    refine x_getN (pc := 147) X V okX18 ht1 3 (by decide) q1157 (v := .int (I x7 3)) rfl dX0_orders_147 ?_
    refine lv_icmp_ge (pc := 150) (tgt := 234) hx hb dX0_orders_150 (by decide) (fun c2 => ?_) (fun c2 => ?_)
    · replace hf := if_t hf c2
      replace hf := nm_s hf; obtain ⟨u3, hu3, hf⟩ := hf
      refine lv_iinc (pc := 234) (v := u3) (lv' := [(6, .int u3), (0, .ref x0), (2, .ref x2), (3, .int x3), (4, .int x4), (5, .int x5), (7, .ref x7), (8, .int x8)]) hx hb dX0_orders_234 hl (k := 5) rfl (by rw [hu3]; rfl) (by decide) rfl (fun ls hl => ?_)
      refine lv_goto (pc := 237) (tgt := 114) hx hb dX0_orders_237 (by decide) ?_
      exact hk114 hf V (lv_sub hl [1, 2, 3, 4, 5, 0] rfl) ⟨by omega, by omega⟩
    · replace hf := if_f hf c2
      refine lv_aload_n (pc := 153) hx hb dX0_orders_153 rfl (lv_at hl 0 rfl) ?_
      refine lv_iload (pc := 154) hx hb dX0_orders_154 (lv_at hl 3 rfl) ?_
      refine lv_iload (pc := 156) hx hb dX0_orders_156 (lv_at hl 4 rfl) ?_
      replace hf := tg_s hf; obtain ⟨ht6, hf⟩ := hf
      replace hf := bs hf; obtain ⟨L4, hk_5, hf⟩ := hf
      refine x_callV0 (pc := 158) (As := [.int x4, .int x5]) (rest := []) X V (mX0_tellsOrder l D dA s0 hk_5) okX0 ht6 q1443 q1445 qs41 q119 q1446 ⟨rfl, hsX0_tellsOrder⟩ ⟨Nat.le_of_ble_eq_true rfl, Nat.le_of_ble_eq_true rfl⟩ rfl hl.1 rfl (Nat.le_of_ble_eq_true rfl) dX0_orders_158 ⟨by show cells ≤ kc; omega, by show slots ≤ ks; omega⟩ (fun H locs V => W.eq (g2 := F0 m 161 ls []) rfl ?_)
      refine lv_aload (pc := 161) hx hb dX0_orders_161 (lv_at hl 6 rfl) ?_
      refine lv_aload_n (pc := 163) hx hb dX0_orders_163 rfl (lv_at hl 0 rfl) ?_
      replace hf := bs hf; obtain ⟨a7, ha7, hf⟩ := hf
      refine x_get (pc := 164) X V okX0 ht6 16 (by decide) q376 (v := va_rf (R x0 16)) rfl dX0_orders_164 ?_
      refine x_topr ha7 ?_
      replace hf := bs hf; obtain ⟨r8, hk_9, hf⟩ := hf
      refine y_afterR (y_runVX (pc := 167) (As := [.ref a7]) (rest := []) X V (mX18_isNow l D dA s0 hk_9) okX18 ht1 q1451 q1452 q1453 q151 q1454 ⟨rfl, hsX18_isNow⟩ ⟨Nat.le_of_ble_eq_true rfl, Nat.le_of_ble_eq_true rfl⟩ rfl hl.1 rfl (Nat.le_of_ble_eq_true rfl) dX0_orders_167 ⟨by show cells ≤ kc; omega, by show slots ≤ ks; omega⟩) V (fun H locs V => W.eq (g2 := F0 m 170 ls [.int r8]) rfl ?_)
      refine lv_if_ne (pc := 170) (tgt := 176) hx hb dX0_orders_170 (by decide) (fun c10 => ?_) (fun c10 => ?_)
      · replace hf := if_f hf c10
        refine lv_aload_n (pc := 176) hx hb dX0_orders_176 rfl (lv_at hl 0 rfl) ?_
        refine lv_aload (pc := 177) hx hb dX0_orders_177 (lv_at hl 6 rfl) ?_
        replace hf := b4s hf; obtain ⟨r11, I12, L13, R14, hk_15, hf⟩ := hf
        refine x_callV0 (pc := 179) (As := [.ref x7]) (rest := []) X V (mX0_runsOrder l D dA s0 hk_15) okX0 ht6 q1457 q1459 qs42 q119 q1460 ⟨rfl, hsX0_runsOrder⟩ ⟨Nat.le_of_ble_eq_true rfl, Nat.le_of_ble_eq_true rfl⟩ rfl hl.1 rfl (Nat.le_of_ble_eq_true rfl) dX0_orders_179 ⟨by show cells ≤ kc; omega, by show slots ≤ ks; omega⟩ (fun H locs V => W.eq (g2 := F0 m 182 ls [.int r11]) rfl ?_)
        refine lv_istore (pc := 182) (lv' := [(9, .int r11), (0, .ref x0), (2, .ref x2), (3, .int x3), (4, .int x4), (5, .int x5), (6, .int x6), (7, .ref x7), (8, .int x8)]) hx hb dX0_orders_182 hl (by decide) rfl (fun ls hl => ?_)
        refine lv_iload (pc := 184) hx hb dX0_orders_184 (lv_at hl 0 rfl) ?_
        refine lv_if_ge (pc := 186) (tgt := 207) hx hb dX0_orders_186 (by decide) (fun c16 => ?_) (fun c16 => ?_)
        · replace hf := if_t hf c16
          refine lv_aload (pc := 207) hx hb dX0_orders_207 (lv_at hl 7 rfl) ?_
          refine x_getN (pc := 209) X V okX18 ht1 0 (by decide) q1150 (v := .int (I12 x7 0)) rfl dX0_orders_209 ?_
          refine lv_iconst (pc := 212) (v := (ii 1)) hx hb dX0_orders_212 (by decide) ?_
          refine lv_icmp_ne (pc := 213) (tgt := 221) hx hb dX0_orders_213 (by decide) (fun c17 => ?_) (fun c17 => ?_)
          · replace hf := if_f hf c17
            refine lv_iload (pc := 221) hx hb dX0_orders_221 (lv_at hl 5 rfl) ?_
            refine lv_istore (pc := 223) (lv' := [(5, .int x5), (9, .int r11), (0, .ref x0), (2, .ref x2), (3, .int x3), (4, .int x4), (6, .int x6), (7, .ref x7), (8, .int x8)]) hx hb dX0_orders_223 hl (by decide) rfl (fun ls hl => ?_)
            replace hf := nm_s hf; obtain ⟨u18, hu18, hf⟩ := hf
            refine lv_iinc (pc := 225) (v := u18) (lv' := [(4, .int u18), (5, .int x5), (9, .int r11), (0, .ref x0), (2, .ref x2), (3, .int x3), (6, .int x6), (7, .ref x7), (8, .int x8)]) hx hb dX0_orders_225 hl (k := 5) rfl (by rw [hu18]; rfl) (by decide) rfl (fun ls hl => ?_)
            replace hf := nm_s hf; obtain ⟨u19, hu19, hf⟩ := hf
            refine lv_iinc (pc := 228) (v := u19) (lv' := [(8, .int u19), (4, .int u18), (5, .int x5), (9, .int r11), (0, .ref x0), (2, .ref x2), (3, .int x3), (6, .int x6), (7, .ref x7)]) hx hb dX0_orders_228 hl (k := 8) rfl (by rw [hu19]; rfl) (by decide) rfl (fun ls hl => ?_)
            refine lv_goto (pc := 231) (tgt := 143) hx hb dX0_orders_231 (by decide) ?_
            exact ih hf V (lv_sub hl [4, 5, 6, 1, 2, 7, 8, 0] rfl) ⟨by omega, by omega⟩
          · replace hf := if_t hf c17
            refine lv_iload (pc := 216) hx hb dX0_orders_216 (lv_at hl 0 rfl) ?_
            refine lv_goto (pc := 218) (tgt := 223) hx hb dX0_orders_218 (by decide) ?_
            refine lv_istore (pc := 223) (lv' := [(5, .int r11), (9, .int r11), (0, .ref x0), (2, .ref x2), (3, .int x3), (4, .int x4), (6, .int x6), (7, .ref x7), (8, .int x8)]) hx hb dX0_orders_223 hl (by decide) rfl (fun ls hl => ?_)
            replace hf := nm_s hf; obtain ⟨u20, hu20, hf⟩ := hf
            refine lv_iinc (pc := 225) (v := u20) (lv' := [(4, .int u20), (5, .int r11), (9, .int r11), (0, .ref x0), (2, .ref x2), (3, .int x3), (6, .int x6), (7, .ref x7), (8, .int x8)]) hx hb dX0_orders_225 hl (k := 5) rfl (by rw [hu20]; rfl) (by decide) rfl (fun ls hl => ?_)
            replace hf := nm_s hf; obtain ⟨u21, hu21, hf⟩ := hf
            refine lv_iinc (pc := 228) (v := u21) (lv' := [(8, .int u21), (4, .int u20), (5, .int r11), (9, .int r11), (0, .ref x0), (2, .ref x2), (3, .int x3), (6, .int x6), (7, .ref x7)]) hx hb dX0_orders_228 hl (k := 8) rfl (by rw [hu21]; rfl) (by decide) rfl (fun ls hl => ?_)
            refine lv_goto (pc := 231) (tgt := 143) hx hb dX0_orders_231 (by decide) ?_
            exact ih hf V (lv_sub hl [4, 5, 6, 1, 2, 7, 8, 0] rfl) ⟨by omega, by omega⟩
        · replace hf := if_f hf c16
          refine lv_aload_n (pc := 189) hx hb dX0_orders_189 rfl (lv_at hl 1 rfl) ?_
          refine lv_iload_n (pc := 190) hx hb dX0_orders_190 rfl (lv_at hl 3 rfl) ?_
          replace hf := bs hf; obtain ⟨I22, hk_23, hf⟩ := hf
          refine x_callV0 (pc := 191) (As := [.int x3]) (rest := []) X V (mX0_putsBack l D dA s0 hk_23) okX0 ht6 q1466 q1468 qs43 q119 q1469 ⟨rfl, hsX0_putsBack⟩ ⟨Nat.le_of_ble_eq_true rfl, Nat.le_of_ble_eq_true rfl⟩ rfl hl.1 rfl (Nat.le_of_ble_eq_true rfl) dX0_orders_191 ⟨by show cells ≤ kc; omega, by show slots ≤ ks; omega⟩ (fun H locs V => W.eq (g2 := F0 m 194 ls []) rfl ?_)
          refine lv_aload_n (pc := 194) hx hb dX0_orders_194 rfl (lv_at hl 1 rfl) ?_
          refine lv_iload (pc := 195) hx hb dX0_orders_195 (lv_at hl 6 rfl) ?_
          replace hf := nm_s hf; obtain ⟨I24, hI24, hf⟩ := hf
          refine x_puti (pc := 197) X V okX0 (by decide) ht6 14 (by decide) q374 (Or.inl rfl) hI24 (fun _ _ _ => rfl) rfl rfl dX0_orders_197 (fun H locs V => ?_)
          refine lv_aload_n (pc := 200) hx hb dX0_orders_200 rfl (lv_at hl 1 rfl) ?_
          refine lv_bipush (pc := 201) (v := (-3 : Int32)) hx hb dX0_orders_201 (by decide) ?_
          replace hf := b2s hf; obtain ⟨r25, I26, hk_27, hf⟩ := hf
          refine x_callV0 (pc := 203) (As := [.int (-3 : Int32)]) (rest := []) X V (mX0_refuse l D dA s0 hk_27) okX0 ht6 q452 q454 qs1 q119 q455 ⟨rfl, hsX0_refuse⟩ ⟨Nat.le_of_ble_eq_true rfl, Nat.le_of_ble_eq_true rfl⟩ rfl hl.1 rfl (Nat.le_of_ble_eq_true rfl) dX0_orders_203 ⟨by show cells ≤ kc; omega, by show slots ≤ ks; omega⟩ (fun H locs V => W.eq (g2 := F0 m 206 ls [.int r25]) rfl ?_)
          cases hf
          exact x_iretW (pc := 206) X V hr (by omega) (by omega) dX0_orders_206
      · replace hf := if_t hf c10
        refine lv_goto (pc := 173) (tgt := 228) hx hb dX0_orders_173 (by decide) ?_
        replace hf := nm_s hf; obtain ⟨u28, hu28, hf⟩ := hf
        refine lv_iinc (pc := 228) (v := u28) (lv' := [(8, .int u28), (0, .ref x0), (2, .ref x2), (3, .int x3), (4, .int x4), (5, .int x5), (6, .int x6), (7, .ref x7)]) hx hb dX0_orders_228 hl (k := 7) rfl (by rw [hu28]; rfl) (by decide) rfl (fun ls hl => ?_)
        refine lv_goto (pc := 231) (tgt := 143) hx hb dX0_orders_231 (by decide) ?_
        exact ih hf V (lv_sub hl [1, 2, 3, 4, 5, 6, 7, 0] rfl) ⟨by omega, by omega⟩
set_option maxHeartbeats 400000 in
set_option maxRecDepth 100000 in
theorem zX0_orders_b114 {nf : Nat} {dA : Nat → ClassId}   {ro : Int32} {To : xT} {No : xT} {Zo : Nat} {So : Nat} {Io : xI} {Lo : xL} {Ro : xR}  (k : Nat) : ∀ {T : xT} {N : xT} {Z : Nat} {S : Nat} {I : xI} {L : xL} {R : xR} {x0 : Nat} {x2 : Nat} {x3 : Int32} {x4 : Int32} {x5 : Int32} {x6 : Int32}, fX0_orders_b114 nf (sv dA) k T N Z S I L R x0 x2 x3 x4 x5 x6 = some (ro, To, No, Zo, So, Io, Lo, Ro) → Z ≤ Zo ∧ S ≤ So := by
  induction k with
  | zero =>
    intro T N Z S I L R x0 x2 x3 x4 x5 x6 hf
    exact absurd (show none = some _ from hf) (fun q => nomatch q)
  | succ k ih =>
    intro T N Z S I L R x0 x2 x3 x4 x5 x6 hf
    rw [fX0_orders_b114] at hf
    replace hf := tg_s hf; obtain ⟨ht1, hf⟩ := hf
    replace hf := bs hf; obtain ⟨a2, ha2, hf⟩ := hf
    replace hf := tg_s hf; obtain ⟨ht5, hf⟩ := hf
    replace hf := bs hf; obtain ⟨r3, hk_4, hf⟩ := hf
    rcases (Decidable.em (r3 ≤ x6)) with c6 | c6
    · replace hf := if_t hf c6
      replace hf := tg_s hf; obtain ⟨ht10, hf⟩ := hf
      replace hf := b2s hf; obtain ⟨r7, I8, hk_9, hf⟩ := hf
      cases hf
      exact ⟨Nat.le_refl _, Nat.le_refl _⟩
    · replace hf := if_f hf c6
      replace hf := bs hf; obtain ⟨r11, hk_12, hf⟩ := hf
      replace hf := tg_s hf; obtain ⟨ht13, hf⟩ := hf
      have hm := zX0_orders_b143 ih nf hf
      exact ⟨by omega, by omega⟩
set_option maxHeartbeats 400000 in
set_option maxRecDepth 100000 in
theorem wX0_orders_b114 {nf : Nat} {kc ks : Nat} {p : Program} {l : Launch} {e : Env} {s : State} {m : MethodId} {args : Array Value} {below : List Frame} {meth : Method} {c : Code} {D : va_G} {dA : Nat → ClassId} {s0 : Nat}   {ro : Int32} {To : xT} {No : xT} {Zo : Nat} {So : Nat} {Io : xI} {Lo : xL} {Ro : xR} (X : Cx D dA s0 p m c cX0_orders 10 s args RX0 meth) (hr : meth.sig.returnType = (some .int))   (k : Nat) : ∀ {T : xT} {N : xT} {Z : Nat} {S : Nat} {I : xI} {L : xL} {R : xR} {x0 : Nat} {x2 : Nat} {x3 : Int32} {x4 : Int32} {x5 : Int32} {x6 : Int32} {H : Heap} {locs : List Loc} {ls : Array Slot} {cells slots : Nat} , fX0_orders_b114 nf (sv dA) k T N Z S I L R x0 x2 x3 x4 x5 x6 = some (ro, To, No, Zo, So, Io, Lo, Ro) → Iv D dA s0 s T N Z I L R H locs → lv_has ls 10 [(0, .ref x0), (2, .ref x2), (3, .int x3), (4, .int x4), (5, .int x5), (6, .int x6)] → cells + (Zo - Z) ≤ kc ∧ slots + (So - S) ≤ ks → W p l e { frames := 1492, cells := kc, slots := ks, locals := 31958 } s m args below meth c H locs cells slots (MQ below (xQ D dA s0 (some (.int ro)) To No Zo Io Lo Ro) args s kc ks (fun q => s0 ≤ q)) (F0 m 114 ls []) := by
  have hx := X.1.1
  have hb := X.1.2.1
  induction k with
  | zero =>
    intro T N Z S I L R x0 x2 x3 x4 x5 x6 H locs ls cells slots hf V hl hB
    exact absurd (show none = some _ from hf) (fun q => nomatch q)
  | succ k ih =>
    intro T N Z S I L R x0 x2 x3 x4 x5 x6 H locs ls cells slots hf V hl hB
    have ihm : ∀ {T : xT} {N : xT} {Z : Nat} {S : Nat} {I : xI} {L : xL} {R : xR} {x0 : Nat} {x2 : Nat} {x3 : Int32} {x4 : Int32} {x5 : Int32} {x6 : Int32}, fX0_orders_b114 nf (sv dA) k T N Z S I L R x0 x2 x3 x4 x5 x6 = some (ro, To, No, Zo, So, Io, Lo, Ro) → Z ≤ Zo ∧ S ≤ So := zX0_orders_b114 k
    rw [fX0_orders_b114] at hf
    refine lv_iload (pc := 114) hx hb dX0_orders_114 (lv_at hl 5 rfl) ?_
    refine lv_aload_n (pc := 116) hx hb dX0_orders_116 rfl (lv_at hl 1 rfl) ?_
    replace hf := tg_s hf; obtain ⟨ht1, hf⟩ := hf
    replace hf := bs hf; obtain ⟨a2, ha2, hf⟩ := hf
    refine x_getN (pc := 117) X V okX20 ht1 7 (by decide) q1431 (v := va_rf (R x2 7)) rfl dX0_orders_117 ?_
    refine x_topr ha2 ?_
    replace hf := tg_s hf; obtain ⟨ht5, hf⟩ := hf
    replace hf := bs hf; obtain ⟨r3, hk_4, hf⟩ := hf
    refine x_callV0 (pc := 120) (As := []) (rest := [.int x6]) X V (mJ2_size l D dA s0 hk_4) okJ2 ht5 q727 q623 q624 q124 q625 ⟨rfl, hsJ2_size⟩ ⟨Nat.le_of_ble_eq_true rfl, Nat.le_of_ble_eq_true rfl⟩ rfl hl.1 rfl (Nat.le_of_ble_eq_true rfl) dX0_orders_120 ⟨by show cells ≤ kc; omega, by show slots ≤ ks; omega⟩ (fun H locs V => W.eq (g2 := F0 m 123 ls [.int r3, .int x6]) rfl ?_)
    refine lv_icmp_ge (pc := 123) (tgt := 240) hx hb dX0_orders_123 (by decide) (fun c6 => ?_) (fun c6 => ?_)
    · replace hf := if_t hf c6
      refine lv_aload_n (pc := 240) hx hb dX0_orders_240 rfl (lv_at hl 0 rfl) ?_
      refine lv_iload (pc := 241) hx hb dX0_orders_241 (lv_at hl 3 rfl) ?_
      replace hf := tg_s hf; obtain ⟨ht10, hf⟩ := hf
      replace hf := b2s hf; obtain ⟨r7, I8, hk_9, hf⟩ := hf
      refine x_callV0 (pc := 243) (As := [.int x4]) (rest := []) X V (mX0_done l D dA s0 hk_9) okX0 ht10 q542 q544 qs3 q119 q545 ⟨rfl, hsX0_done⟩ ⟨Nat.le_of_ble_eq_true rfl, Nat.le_of_ble_eq_true rfl⟩ rfl hl.1 rfl (Nat.le_of_ble_eq_true rfl) dX0_orders_243 ⟨by show cells ≤ kc; omega, by show slots ≤ ks; omega⟩ (fun H locs V => W.eq (g2 := F0 m 246 ls [.int r7]) rfl ?_)
      cases hf
      exact x_iretW (pc := 246) X V hr (by omega) (by omega) dX0_orders_246
    · replace hf := if_f hf c6
      refine lv_aload_n (pc := 126) hx hb dX0_orders_126 rfl (lv_at hl 1 rfl) ?_
      refine x_getN (pc := 127) X V okX20 ht1 7 (by decide) q1431 (v := va_rf (R x2 7)) rfl dX0_orders_127 ?_
      refine x_topr ha2 ?_
      refine lv_iload (pc := 130) hx hb dX0_orders_130 (lv_at hl 5 rfl) ?_
      replace hf := bs hf; obtain ⟨r11, hk_12, hf⟩ := hf
      refine x_callV0 (pc := 132) (As := [.int x6]) (rest := []) X V (mJ2_get l D dA s0 hk_12) okJ2 ht5 q602 q603 q604 q124 q605 ⟨rfl, hsJ2_get⟩ ⟨Nat.le_of_ble_eq_true rfl, Nat.le_of_ble_eq_true rfl⟩ rfl hl.1 rfl (Nat.le_of_ble_eq_true rfl) dX0_orders_132 ⟨by show cells ≤ kc; omega, by show slots ≤ ks; omega⟩ (fun H locs V => W.eq (g2 := F0 m 135 ls [.ref r11]) rfl ?_)
      replace hf := tg_s hf; obtain ⟨ht13, hf⟩ := hf
      refine x_castS (pc := 135) X V okX18 ht13 q1442 dX0_orders_135 ?_
      refine lv_astore (pc := 138) (lv' := [(7, .ref r11), (0, .ref x0), (2, .ref x2), (3, .int x3), (4, .int x4), (5, .int x5), (6, .int x6)]) hx hb dX0_orders_138 hl (by decide) rfl (fun ls hl => ?_)
      refine lv_iconst (pc := 140) (v := (ii 0)) hx hb dX0_orders_140 (by decide) ?_
      refine lv_istore (pc := 141) (lv' := [(8, .int (ii 0)), (7, .ref r11), (0, .ref x0), (2, .ref x2), (3, .int x3), (4, .int x4), (5, .int x5), (6, .int x6)]) hx hb dX0_orders_141 hl (by decide) rfl (fun ls hl => ?_)
      exact wX0_orders_b143 X hr ih ihm nf hf V (lv_sub hl [2, 3, 4, 5, 6, 7, 1, 0] rfl) ⟨by omega, by omega⟩
set_option maxHeartbeats 400000 in
set_option maxRecDepth 100000 in
theorem zX0_orders_b56 {nf : Nat} {dA : Nat → ClassId}   {ro : Int32} {To : xT} {No : xT} {Zo : Nat} {So : Nat} {Io : xI} {Lo : xL} {Ro : xR}  (k : Nat) : ∀ {T : xT} {N : xT} {Z : Nat} {S : Nat} {I : xI} {L : xL} {R : xR} {x0 : Nat} {x2 : Nat} {x3 : Int32}, fX0_orders_b56 nf (sv dA) k T N Z S I L R x0 x2 x3 = some (ro, To, No, Zo, So, Io, Lo, Ro) → Z ≤ Zo ∧ S ≤ So := by
  induction k with
  | zero =>
    intro T N Z S I L R x0 x2 x3 hf
    exact absurd (show none = some _ from hf) (fun q => nomatch q)
  | succ k ih =>
    intro T N Z S I L R x0 x2 x3 hf
    rw [fX0_orders_b56] at hf
    replace hf := tg_s hf; obtain ⟨ht1, hf⟩ := hf
    rcases (Decidable.em ((I x0 15) ≤ x3)) with c2 | c2
    · replace hf := if_t hf c2
      replace hf := bs hf; obtain ⟨a3, ha3, hf⟩ := hf
      replace hf := bs hf; obtain ⟨a4, ha4, hf⟩ := hf
      replace hf := tg_s hf; obtain ⟨ht5, hf⟩ := hf
      replace hf := tg_s hf; obtain ⟨ht6, hf⟩ := hf
      replace hf := chk_s hf; obtain ⟨hq7, hf⟩ := hf
      replace hf := nm_s hf; obtain ⟨I8, hI8, hf⟩ := hf
      replace hf := nm_s hf; obtain ⟨u9, hu9, hf⟩ := hf
      have hm := zX0_orders_b114 nf hf
      exact ⟨by omega, by omega⟩
    · replace hf := if_f hf c2
      replace hf := bs hf; obtain ⟨a10, ha10, hf⟩ := hf
      replace hf := rA_s hf; obtain ⟨j11, hjj11, htj11, hij11, hf⟩ := hf
      replace hf := bs hf; obtain ⟨a12, ha12, hf⟩ := hf
      replace hf := bs hf; obtain ⟨a13, ha13, hf⟩ := hf
      replace hf := rA_s hf; obtain ⟨j14, hjj14, htj14, hij14, hf⟩ := hf
      replace hf := bs hf; obtain ⟨a15, ha15, hf⟩ := hf
      replace hf := tg_s hf; obtain ⟨ht18, hf⟩ := hf
      replace hf := bs hf; obtain ⟨I16, hk_17, hf⟩ := hf
      replace hf := nm_s hf; obtain ⟨u19, hu19, hf⟩ := hf
      have hm := ih hf
      exact ⟨by omega, by omega⟩
set_option maxHeartbeats 400000 in
set_option maxRecDepth 100000 in
theorem wX0_orders_b56 {nf : Nat} {kc ks : Nat} {p : Program} {l : Launch} {e : Env} {s : State} {m : MethodId} {args : Array Value} {below : List Frame} {meth : Method} {c : Code} {D : va_G} {dA : Nat → ClassId} {s0 : Nat}   {ro : Int32} {To : xT} {No : xT} {Zo : Nat} {So : Nat} {Io : xI} {Lo : xL} {Ro : xR} (X : Cx D dA s0 p m c cX0_orders 10 s args RX0 meth) (hr : meth.sig.returnType = (some .int))   (k : Nat) : ∀ {T : xT} {N : xT} {Z : Nat} {S : Nat} {I : xI} {L : xL} {R : xR} {x0 : Nat} {x2 : Nat} {x3 : Int32} {H : Heap} {locs : List Loc} {ls : Array Slot} {cells slots : Nat} , fX0_orders_b56 nf (sv dA) k T N Z S I L R x0 x2 x3 = some (ro, To, No, Zo, So, Io, Lo, Ro) → Iv D dA s0 s T N Z I L R H locs → lv_has ls 10 [(0, .ref x0), (2, .ref x2), (3, .int x3)] → cells + (Zo - Z) ≤ kc ∧ slots + (So - S) ≤ ks → W p l e { frames := 1492, cells := kc, slots := ks, locals := 31958 } s m args below meth c H locs cells slots (MQ below (xQ D dA s0 (some (.int ro)) To No Zo Io Lo Ro) args s kc ks (fun q => s0 ≤ q)) (F0 m 56 ls []) := by
  have hx := X.1.1
  have hb := X.1.2.1
  induction k with
  | zero =>
    intro T N Z S I L R x0 x2 x3 H locs ls cells slots hf V hl hB
    exact absurd (show none = some _ from hf) (fun q => nomatch q)
  | succ k ih =>
    intro T N Z S I L R x0 x2 x3 H locs ls cells slots hf V hl hB
    have ihm : ∀ {T : xT} {N : xT} {Z : Nat} {S : Nat} {I : xI} {L : xL} {R : xR} {x0 : Nat} {x2 : Nat} {x3 : Int32}, fX0_orders_b56 nf (sv dA) k T N Z S I L R x0 x2 x3 = some (ro, To, No, Zo, So, Io, Lo, Ro) → Z ≤ Zo ∧ S ≤ So := zX0_orders_b56 k
    rw [fX0_orders_b56] at hf
    refine lv_iload_n (pc := 56) hx hb dX0_orders_56 rfl (lv_at hl 2 rfl) ?_
    refine lv_aload_n (pc := 57) hx hb dX0_orders_57 rfl (lv_at hl 0 rfl) ?_
    replace hf := tg_s hf; obtain ⟨ht1, hf⟩ := hf
    refine x_get (pc := 58) X V okX0 ht1 15 (by decide) q375 (v := .int (I x0 15)) rfl dX0_orders_58 ?_
    refine lv_icmp_ge (pc := 61) (tgt := 85) hx hb dX0_orders_61 (by decide) (fun c2 => ?_) (fun c2 => ?_)
    · replace hf := if_t hf c2
      refine lv_aload_n (pc := 85) hx hb dX0_orders_85 rfl (lv_at hl 0 rfl) ?_
      replace hf := bs hf; obtain ⟨a3, ha3, hf⟩ := hf
      refine x_get (pc := 86) X V okX0 ht1 6 (by decide) q366 (v := va_rf (R x0 6)) rfl dX0_orders_86 ?_
      refine x_topr ha3 ?_
      refine lv_iconst (pc := 89) (v := (ii 0)) hx hb dX0_orders_89 (by decide) ?_
      refine lv_aload_n (pc := 90) hx hb dX0_orders_90 rfl (lv_at hl 0 rfl) ?_
      replace hf := bs hf; obtain ⟨a4, ha4, hf⟩ := hf
      refine x_get (pc := 91) X V okX0 ht1 7 (by decide) q367 (v := va_rf (R x0 7)) rfl dX0_orders_91 ?_
      refine x_topr ha4 ?_
      refine lv_iconst (pc := 94) (v := (ii 0)) hx hb dX0_orders_94 (by decide) ?_
      refine lv_bipush (pc := 95) (v := (ii 16)) hx hb dX0_orders_95 (by decide) ?_
      replace hf := tg_s hf; obtain ⟨ht5, hf⟩ := hf
      replace hf := tg_s hf; obtain ⟨ht6, hf⟩ := hf
      replace hf := chk_s hf; obtain ⟨hq7, hf⟩ := hf
      replace hf := nm_s hf; obtain ⟨I8, hI8, hf⟩ := hf
      refine x_copyi (pc := 97) X V q1351 q469 q468 q150 ht5 ht6 hq7 hI8 hl.1 (Nat.le_of_ble_eq_true rfl) (Nat.le_of_ble_eq_true rfl) dX0_orders_97 (fun H locs V => ?_)
      refine lv_aload_n (pc := 100) hx hb dX0_orders_100 rfl (lv_at hl 0 rfl) ?_
      refine x_get (pc := 101) X V okX0 ht1 15 (by decide) q375 (v := .int (I8 x0 15)) rfl dX0_orders_101 ?_
      replace hf := nm_s hf; obtain ⟨u9, hu9, hf⟩ := hf
      refine x_topi hu9 ?_
      refine lv_istore_n (pc := 104) (lv' := [(3, .int u9), (0, .ref x0), (2, .ref x2)]) hx hb dX0_orders_104 rfl hl (by decide) rfl (fun ls hl => ?_)
      refine lv_iconst (pc := 105) (v := (ii 0)) hx hb dX0_orders_105 (by decide) ?_
      refine lv_istore (pc := 106) (lv' := [(4, .int (ii 0)), (3, .int u9), (0, .ref x0), (2, .ref x2)]) hx hb dX0_orders_106 hl (by decide) rfl (fun ls hl => ?_)
      refine lv_iconst (pc := 108) (v := (-1 : Int32)) hx hb dX0_orders_108 (by decide) ?_
      refine lv_istore (pc := 109) (lv' := [(5, .int (-1 : Int32)), (4, .int (ii 0)), (3, .int u9), (0, .ref x0), (2, .ref x2)]) hx hb dX0_orders_109 hl (by decide) rfl (fun ls hl => ?_)
      refine lv_iconst (pc := 111) (v := (ii 0)) hx hb dX0_orders_111 (by decide) ?_
      refine lv_istore (pc := 112) (lv' := [(6, .int (ii 0)), (5, .int (-1 : Int32)), (4, .int (ii 0)), (3, .int u9), (0, .ref x0), (2, .ref x2)]) hx hb dX0_orders_112 hl (by decide) rfl (fun ls hl => ?_)
      exact wX0_orders_b114 X hr nf hf V (lv_sub hl [4, 5, 3, 2, 1, 0] rfl) ⟨by omega, by omega⟩
    · replace hf := if_f hf c2
      refine lv_aload_n (pc := 64) hx hb dX0_orders_64 rfl (lv_at hl 0 rfl) ?_
      replace hf := bs hf; obtain ⟨a10, ha10, hf⟩ := hf
      refine x_get (pc := 65) X V okX0 ht1 5 (by decide) q365 (v := va_rf (R x0 5)) rfl dX0_orders_65 ?_
      refine x_topr ha10 ?_
      refine lv_iload_n (pc := 68) hx hb dX0_orders_68 rfl (lv_at hl 2 rfl) ?_
      replace hf := rA_s hf; obtain ⟨j11, hjj11, htj11, hij11, hf⟩ := hf
      refine x_aald (pc := 69) X V (k := 6) rfl (by decide) htj11 hij11 hjj11 dX0_orders_69 ?_
      replace hf := bs hf; obtain ⟨a12, ha12, hf⟩ := hf
      refine x_topr ha12 ?_
      refine lv_aload_n (pc := 70) hx hb dX0_orders_70 rfl (lv_at hl 0 rfl) ?_
      replace hf := bs hf; obtain ⟨a13, ha13, hf⟩ := hf
      refine x_get (pc := 71) X V okX0 ht1 4 (by decide) q364 (v := va_rf (R x0 4)) rfl dX0_orders_71 ?_
      refine x_topr ha13 ?_
      refine lv_iload_n (pc := 74) hx hb dX0_orders_74 rfl (lv_at hl 2 rfl) ?_
      replace hf := rA_s hf; obtain ⟨j14, hjj14, htj14, hij14, hf⟩ := hf
      refine x_aald (pc := 75) X V (k := 6) rfl (by decide) htj14 hij14 hjj14 dX0_orders_75 ?_
      replace hf := bs hf; obtain ⟨a15, ha15, hf⟩ := hf
      refine x_topr ha15 ?_
      replace hf := tg_s hf; obtain ⟨ht18, hf⟩ := hf
      replace hf := bs hf; obtain ⟨I16, hk_17, hf⟩ := hf
      refine x_callV0 (pc := 76) (As := [.ref a15]) (rest := []) X V (mX2_takes l D dA s0 hk_17) okX2 ht18 q1227 q461 q462 q121 q463 ⟨rfl, hsX2_takes⟩ ⟨Nat.le_of_ble_eq_true rfl, Nat.le_of_ble_eq_true rfl⟩ rfl hl.1 rfl (Nat.le_of_ble_eq_true rfl) dX0_orders_76 ⟨by show cells ≤ kc; omega, by show slots ≤ ks; omega⟩ (fun H locs V => W.eq (g2 := F0 m 79 ls []) rfl ?_)
      replace hf := nm_s hf; obtain ⟨u19, hu19, hf⟩ := hf
      refine lv_iinc (pc := 79) (v := u19) (lv' := [(3, .int u19), (0, .ref x0), (2, .ref x2)]) hx hb dX0_orders_79 hl (k := 2) rfl (by rw [hu19]; rfl) (by decide) rfl (fun ls hl => ?_)
      refine lv_goto (pc := 82) (tgt := 56) hx hb dX0_orders_82 (by decide) ?_
      exact ih hf V (lv_sub hl [1, 2, 0] rfl) ⟨by omega, by omega⟩
set_option maxHeartbeats 400000 in
set_option maxRecDepth 100000 in
theorem zX0_orders_b33 {nf : Nat} {dA : Nat → ClassId} {T : xT} {N : xT} {Z : Nat} {S : Nat} {I : xI} {L : xL} {R : xR}  {x0 : Nat} {x2 : Nat} {z0 : Int32} {ro : Int32} {To : xT} {No : xT} {Zo : Nat} {So : Nat} {Io : xI} {Lo : xL} {Ro : xR}  (hf : fX0_orders_b33 nf (sv dA) T N Z S I L R x0 x2 z0 = some (ro, To, No, Zo, So, Io, Lo, Ro)) : Z ≤ Zo ∧ S ≤ So := by
  unfold fX0_orders_b33 at hf
  rcases (Decidable.em (z0 = (ii 0))).symm with c1 | c1
  · replace hf := if_f hf c1
    replace hf := tg_s hf; obtain ⟨ht2, hf⟩ := hf
    replace hf := bs hf; obtain ⟨a3, ha3, hf⟩ := hf
    replace hf := bs hf; obtain ⟨r4, hk_5, hf⟩ := hf
    replace hf := tg_s hf; obtain ⟨ht8, hf⟩ := hf
    replace hf := bs hf; obtain ⟨I6, hk_7, hf⟩ := hf
    have hm := zX0_orders_b56 nf hf
    exact ⟨by omega, by omega⟩
  · replace hf := if_t hf c1
    replace hf := tg_s hf; obtain ⟨ht12, hf⟩ := hf
    replace hf := b2s hf; obtain ⟨r9, I10, hk_11, hf⟩ := hf
    cases hf
    exact ⟨Nat.le_refl _, Nat.le_refl _⟩
set_option maxHeartbeats 400000 in
set_option maxRecDepth 100000 in
theorem wX0_orders_b33 {nf : Nat} {kc ks : Nat} {cells slots : Nat} {p : Program} {l : Launch} {e : Env} {s : State} {m : MethodId} {args : Array Value} {below : List Frame} {meth : Method} {c : Code} {D : va_G} {dA : Nat → ClassId} {s0 : Nat} {T : xT} {N : xT} {Z : Nat} {S : Nat} {I : xI} {L : xL} {R : xR} {H : Heap} {locs : List Loc} {ls : Array Slot}  {x0 : Nat} {x2 : Nat} {z0 : Int32} {ro : Int32} {To : xT} {No : xT} {Zo : Nat} {So : Nat} {Io : xI} {Lo : xL} {Ro : xR} (X : Cx D dA s0 p m c cX0_orders 10 s args RX0 meth) (hr : meth.sig.returnType = (some .int))   (hf : fX0_orders_b33 nf (sv dA) T N Z S I L R x0 x2 z0 = some (ro, To, No, Zo, So, Io, Lo, Ro)) (V : Iv D dA s0 s T N Z I L R H locs) (hl : lv_has ls 10 [(0, .ref x0), (2, .ref x2)]) (hB : cells + (Zo - Z) ≤ kc ∧ slots + (So - S) ≤ ks) : W p l e { frames := 1492, cells := kc, slots := ks, locals := 31958 } s m args below meth c H locs cells slots (MQ below (xQ D dA s0 (some (.int ro)) To No Zo Io Lo Ro) args s kc ks (fun q => s0 ≤ q)) (F0 m 33 ls [.int z0]) := by
  have hx := X.1.1
  have hb := X.1.2.1
  unfold fX0_orders_b33 at hf
  refine lv_if_ne (pc := 33) (tgt := 43) hx hb dX0_orders_33 (by decide) (fun c1 => ?_) (fun c1 => ?_)
  · replace hf := if_f hf c1
    refine lv_aload_n (pc := 43) hx hb dX0_orders_43 rfl (lv_at hl 0 rfl) ?_
    replace hf := tg_s hf; obtain ⟨ht2, hf⟩ := hf
    replace hf := bs hf; obtain ⟨a3, ha3, hf⟩ := hf
    refine x_get (pc := 44) X V okX0 ht2 8 (by decide) q368 (v := va_rf (R x0 8)) rfl dX0_orders_44 ?_
    refine x_topr ha3 ?_
    refine lv_aload_n (pc := 47) hx hb dX0_orders_47 rfl (lv_at hl 0 rfl) ?_
    replace hf := bs hf; obtain ⟨r4, hk_5, hf⟩ := hf
    refine x_callV0 (pc := 48) (As := []) (rest := [.ref a3]) X V (mX0_table l D dA s0 hk_5) okX0 ht2 q568 q570 qs6 q119 q571 ⟨rfl, hsX0_table⟩ ⟨Nat.le_of_ble_eq_true rfl, Nat.le_of_ble_eq_true rfl⟩ rfl hl.1 rfl (Nat.le_of_ble_eq_true rfl) dX0_orders_48 ⟨by show cells ≤ kc; omega, by show slots ≤ ks; omega⟩ (fun H locs V => W.eq (g2 := F0 m 51 ls [.ref r4, .ref a3]) rfl ?_)
    replace hf := tg_s hf; obtain ⟨ht8, hf⟩ := hf
    replace hf := bs hf; obtain ⟨I6, hk_7, hf⟩ := hf
    refine x_callV0 (pc := 51) (As := [.ref r4]) (rest := []) X V (mX2_takes l D dA s0 hk_7) okX2 ht8 q1227 q461 q462 q121 q463 ⟨rfl, hsX2_takes⟩ ⟨Nat.le_of_ble_eq_true rfl, Nat.le_of_ble_eq_true rfl⟩ rfl hl.1 rfl (Nat.le_of_ble_eq_true rfl) dX0_orders_51 ⟨by show cells ≤ kc; omega, by show slots ≤ ks; omega⟩ (fun H locs V => W.eq (g2 := F0 m 54 ls []) rfl ?_)
    refine lv_iconst (pc := 54) (v := (ii 0)) hx hb dX0_orders_54 (by decide) ?_
    refine lv_istore_n (pc := 55) (lv' := [(3, .int (ii 0)), (0, .ref x0), (2, .ref x2)]) hx hb dX0_orders_55 rfl hl (by decide) rfl (fun ls hl => ?_)
    exact wX0_orders_b56 X hr nf hf V (lv_sub hl [1, 2, 0] rfl) ⟨by omega, by omega⟩
  · replace hf := if_t hf c1
    refine lv_aload_n (pc := 36) hx hb dX0_orders_36 rfl (lv_at hl 0 rfl) ?_
    refine lv_bipush (pc := 37) (v := (-6 : Int32)) hx hb dX0_orders_37 (by decide) ?_
    replace hf := tg_s hf; obtain ⟨ht12, hf⟩ := hf
    replace hf := b2s hf; obtain ⟨r9, I10, hk_11, hf⟩ := hf
    refine x_callV0 (pc := 39) (As := [.int (-6 : Int32)]) (rest := []) X V (mX0_refuse l D dA s0 hk_11) okX0 ht12 q452 q454 qs1 q119 q455 ⟨rfl, hsX0_refuse⟩ ⟨Nat.le_of_ble_eq_true rfl, Nat.le_of_ble_eq_true rfl⟩ rfl hl.1 rfl (Nat.le_of_ble_eq_true rfl) dX0_orders_39 ⟨by show cells ≤ kc; omega, by show slots ≤ ks; omega⟩ (fun H locs V => W.eq (g2 := F0 m 42 ls [.int r9]) rfl ?_)
    cases hf
    exact x_iretW (pc := 42) X V hr (by omega) (by omega) dX0_orders_42
set_option maxHeartbeats 400000 in
set_option maxRecDepth 100000 in
theorem zX0_orders_b27 {nf : Nat} {dA : Nat → ClassId} {T : xT} {N : xT} {Z : Nat} {S : Nat} {I : xI} {L : xL} {R : xR}  {x0 : Nat} {z0 : Nat} {ro : Int32} {To : xT} {No : xT} {Zo : Nat} {So : Nat} {Io : xI} {Lo : xL} {Ro : xR}  (hf : fX0_orders_b27 nf (sv dA) T N Z S I L R x0 z0 = some (ro, To, No, Zo, So, Io, Lo, Ro)) : Z ≤ Zo ∧ S ≤ So := by
  unfold fX0_orders_b27 at hf
  replace hf := tg_s hf; obtain ⟨ht9, hf⟩ := hf
  replace hf := b7s hf; obtain ⟨r1, T2, N3, Z4, S5, I6, R7, hk_8, hf⟩ := hf
  have hm_hk_8 := zX0_reads_ndX20 hk_8
  have hm := zX0_orders_b33 hf
  exact ⟨by omega, by omega⟩
set_option maxHeartbeats 400000 in
set_option maxRecDepth 100000 in
theorem wX0_orders_b27 {nf : Nat} {kc ks : Nat} {cells slots : Nat} {p : Program} {l : Launch} {e : Env} {s : State} {m : MethodId} {args : Array Value} {below : List Frame} {meth : Method} {c : Code} {D : va_G} {dA : Nat → ClassId} {s0 : Nat} {T : xT} {N : xT} {Z : Nat} {S : Nat} {I : xI} {L : xL} {R : xR} {H : Heap} {locs : List Loc} {ls : Array Slot}  {x0 : Nat} {z0 : Nat} {ro : Int32} {To : xT} {No : xT} {Zo : Nat} {So : Nat} {Io : xI} {Lo : xL} {Ro : xR} (X : Cx D dA s0 p m c cX0_orders 10 s args RX0 meth) (hr : meth.sig.returnType = (some .int))   (hf : fX0_orders_b27 nf (sv dA) T N Z S I L R x0 z0 = some (ro, To, No, Zo, So, Io, Lo, Ro)) (V : Iv D dA s0 s T N Z I L R H locs) (hl : lv_has ls 10 [(0, .ref x0)]) (hB : cells + (Zo - Z) ≤ kc ∧ slots + (So - S) ≤ ks) : W p l e { frames := 1492, cells := kc, slots := ks, locals := 31958 } s m args below meth c H locs cells slots (MQ below (xQ D dA s0 (some (.int ro)) To No Zo Io Lo Ro) args s kc ks (fun q => s0 ≤ q)) (F0 m 27 ls [.ref z0]) := by
  have hx := X.1.1
  have hb := X.1.2.1
  unfold fX0_orders_b27 at hf
  refine lv_astore_n (pc := 27) (lv' := [(2, .ref z0), (0, .ref x0)]) hx hb dX0_orders_27 rfl hl (by decide) rfl (fun ls hl => ?_)
  refine lv_aload_n (pc := 28) hx hb dX0_orders_28 rfl (lv_at hl 1 rfl) ?_
  refine lv_aload_n (pc := 29) hx hb dX0_orders_29 rfl (lv_at hl 0 rfl) ?_
  replace hf := tg_s hf; obtain ⟨ht9, hf⟩ := hf
  replace hf := b7s hf; obtain ⟨r1, T2, N3, Z4, S5, I6, R7, hk_8, hf⟩ := hf
  have hm_hk_8 := zX0_reads_ndX20 hk_8
  have hm := zX0_orders_b33 hf
  refine y_afterR (y_runVX (pc := 30) (As := [.ref z0]) (rest := []) X V (mX0_reads_ndX20 l D dA s0 (kc := Z4 - Z) (ks := S5 - S) (Nat.le_refl _) (Nat.le_refl _) hk_8) okX0 ht9 q765 q767 qs15 q119 q768 ⟨rfl, hsX0_reads_ndX20⟩ ⟨Nat.le_of_ble_eq_true rfl, Nat.le_of_ble_eq_true rfl⟩ rfl hl.1 rfl (Nat.le_of_ble_eq_true rfl) dX0_orders_30 ⟨by show _ ≤ kc; omega, by show _ ≤ ks; omega⟩) V (fun H locs V => W.eq (g2 := F0 m 33 ls [.int r1]) rfl ?_)
  exact wX0_orders_b33 X hr hf V (lv_sub hl [1, 0] rfl) ⟨by omega, by omega⟩
set_option maxHeartbeats 400000 in
set_option maxRecDepth 100000 in
theorem zX0_orders_b18 {nf : Nat} {dA : Nat → ClassId} {T : xT} {N : xT} {Z : Nat} {S : Nat} {I : xI} {L : xL} {R : xR}  {x0 : Nat} {x1 : Int32} {z0 : Nat} {ro : Int32} {To : xT} {No : xT} {Zo : Nat} {So : Nat} {Io : xI} {Lo : xL} {Ro : xR}  (hf : fX0_orders_b18 nf (sv dA) T N Z S I L R x0 x1 z0 = some (ro, To, No, Zo, So, Io, Lo, Ro)) : Z ≤ Zo ∧ S ≤ So := by
  unfold fX0_orders_b18 at hf
  replace hf := tg_s hf; obtain ⟨ht1, hf⟩ := hf
  replace hf := bs hf; obtain ⟨a2, ha2, hf⟩ := hf
  replace hf := b6s hf; obtain ⟨T3, N4, Z5, S6, I7, R8, hk_9, hf⟩ := hf
  have hm_hk_9 := zX20_init hk_9
  have hm := zX0_orders_b27 hf
  exact ⟨by omega, by omega⟩
set_option maxHeartbeats 400000 in
set_option maxRecDepth 100000 in
theorem wX0_orders_b18 {nf : Nat} {kc ks : Nat} {cells slots : Nat} {p : Program} {l : Launch} {e : Env} {s : State} {m : MethodId} {args : Array Value} {below : List Frame} {meth : Method} {c : Code} {D : va_G} {dA : Nat → ClassId} {s0 : Nat} {T : xT} {N : xT} {Z : Nat} {S : Nat} {I : xI} {L : xL} {R : xR} {H : Heap} {locs : List Loc} {ls : Array Slot}  {x0 : Nat} {x1 : Int32} {z0 : Nat} {ro : Int32} {To : xT} {No : xT} {Zo : Nat} {So : Nat} {Io : xI} {Lo : xL} {Ro : xR} (X : Cx D dA s0 p m c cX0_orders 10 s args RX0 meth) (hr : meth.sig.returnType = (some .int))   (hf : fX0_orders_b18 nf (sv dA) T N Z S I L R x0 x1 z0 = some (ro, To, No, Zo, So, Io, Lo, Ro)) (V : Iv D dA s0 s T N Z I L R H locs) (hl : lv_has ls 10 [(0, .ref x0), (1, .int x1)]) (hB : cells + (Zo - Z) ≤ kc ∧ slots + (So - S) ≤ ks) : W p l e { frames := 1492, cells := kc, slots := ks, locals := 31958 } s m args below meth c H locs cells slots (MQ below (xQ D dA s0 (some (.int ro)) To No Zo Io Lo Ro) args s kc ks (fun q => s0 ≤ q)) (F0 m 18 ls [.ref z0]) := by
  have hx := X.1.1
  have hb := X.1.2.1
  unfold fX0_orders_b18 at hf
  refine lv_dup (pc := 18) hx hb dX0_orders_18 rfl ?_
  refine lv_aload_n (pc := 19) hx hb dX0_orders_19 rfl (lv_at hl 0 rfl) ?_
  replace hf := tg_s hf; obtain ⟨ht1, hf⟩ := hf
  replace hf := bs hf; obtain ⟨a2, ha2, hf⟩ := hf
  refine x_get (pc := 20) X V okX0 ht1 10 (by decide) q370 (v := va_rf (R x0 10)) rfl dX0_orders_20 ?_
  refine x_topr ha2 ?_
  refine lv_iload_n (pc := 23) hx hb dX0_orders_23 rfl (lv_at hl 1 rfl) ?_
  replace hf := b6s hf; obtain ⟨T3, N4, Z5, S6, I7, R8, hk_9, hf⟩ := hf
  have hm_hk_9 := zX20_init hk_9
  have hm := zX0_orders_b27 hf
  refine x_callI (pc := 24) (As := [.ref a2, .int x1]) (rest := [.ref z0]) X V (mX20_init l D dA s0 (kc := Z5 - Z) (ks := S6 - S) (Nat.le_refl _) (Nat.le_refl _) hk_9) q1424 q1425 q153 q1426 rfl hsX20_init ⟨Nat.le_of_ble_eq_true rfl, Nat.le_of_ble_eq_true rfl⟩ rfl hl.1 rfl (Nat.le_of_ble_eq_true rfl) dX0_orders_24 ⟨by show _ ≤ kc; omega, by show _ ≤ ks; omega⟩ (fun H locs V => W.eq (g2 := F0 m 27 ls [.ref z0]) rfl ?_)
  exact wX0_orders_b27 X hr hf V (lv_sub hl [0] rfl) ⟨by omega, by omega⟩
set_option maxHeartbeats 400000 in
set_option maxRecDepth 100000 in
theorem zX0_orders {nf : Nat} {dA : Nat → ClassId} {T : xT} {N : xT} {Z : Nat} {S : Nat} {I : xI} {L : xL} {R : xR} {x0 : Nat} {ro : Int32} {To : xT} {No : xT} {Zo : Nat} {So : Nat} {Io : xI} {Lo : xL} {Ro : xR} (hf : fX0_orders nf (sv dA) T N Z S I L R x0 = some (ro, To, No, Zo, So, Io, Lo, Ro)) : Z ≤ Zo ∧ S ≤ So := by
  unfold fX0_orders at hf
  replace hf := tg_s hf; obtain ⟨ht1, hf⟩ := hf
  replace hf := nm_s hf; obtain ⟨u2, hu2, hf⟩ := hf
  replace hf := nm_s hf; obtain ⟨I3, hI3, hf⟩ := hf
  replace hf := nm_s hf; obtain ⟨I4, hI4, hf⟩ := hf
  replace hf := nm_s hf; obtain ⟨T5, hT5, hf⟩ := hf
  replace hf := nm_s hf; obtain ⟨Z6, hZ6, hf⟩ := hf
  replace hf := nm_s hf; obtain ⟨S7, hS7, hf⟩ := hf
  have hm := zX0_orders_b18 hf
  exact ⟨by omega, by omega⟩
set_option maxHeartbeats 400000 in
set_option maxRecDepth 100000 in
theorem wX0_orders_e {nf : Nat} {kc ks : Nat} {cells slots : Nat} {p : Program} {l : Launch} {e : Env} {s : State} {m : MethodId} {args : Array Value} {below : List Frame} {meth : Method} {c : Code} {D : va_G} {dA : Nat → ClassId} {s0 : Nat} {T : xT} {N : xT} {Z : Nat} {S : Nat} {I : xI} {L : xL} {R : xR} {H : Heap} {locs : List Loc} {ls : Array Slot} {x0 : Nat} {ro : Int32} {To : xT} {No : xT} {Zo : Nat} {So : Nat} {Io : xI} {Lo : xL} {Ro : xR} (X : Cx D dA s0 p m c cX0_orders 10 s args RX0 meth) (hr : meth.sig.returnType = (some .int)) (hf : fX0_orders nf (sv dA) T N Z S I L R x0 = some (ro, To, No, Zo, So, Io, Lo, Ro)) (V : Iv D dA s0 s T N Z I L R H locs) (hl : lv_has ls 10 [(0, .ref x0)]) (hB : cells + (Zo - Z) ≤ kc ∧ slots + (So - S) ≤ ks) : W p l e { frames := 1492, cells := kc, slots := ks, locals := 31958 } s m args below meth c H locs cells slots (MQ below (xQ D dA s0 (some (.int ro)) To No Zo Io Lo Ro) args s kc ks (fun q => s0 ≤ q)) (F0 m 0 ls []) := by
  have hx := X.1.1
  have hb := X.1.2.1
  unfold fX0_orders at hf
  refine lv_aload_n (pc := 0) hx hb dX0_orders_0 rfl (lv_at hl 0 rfl) ?_
  replace hf := tg_s hf; obtain ⟨ht1, hf⟩ := hf
  refine x_get (pc := 1) X V okX0 ht1 11 (by decide) q371 (v := .int (I x0 11)) rfl dX0_orders_1 ?_
  replace hf := nm_s hf; obtain ⟨u2, hu2, hf⟩ := hf
  refine x_topi hu2 ?_
  refine lv_istore_n (pc := 4) (lv' := [(1, .int u2), (0, .ref x0)]) hx hb dX0_orders_4 rfl hl (by decide) rfl (fun ls hl => ?_)
  refine lv_aload_n (pc := 5) hx hb dX0_orders_5 rfl (lv_at hl 1 rfl) ?_
  refine lv_iconst (pc := 6) (v := (ii 0)) hx hb dX0_orders_6 (by decide) ?_
  replace hf := nm_s hf; obtain ⟨I3, hI3, hf⟩ := hf
  refine x_puti (pc := 7) X V okX0 (by decide) ht1 11 (by decide) q371 (Or.inl rfl) hI3 (fun _ _ _ => rfl) rfl rfl dX0_orders_7 (fun H locs V => ?_)
  refine lv_aload_n (pc := 10) hx hb dX0_orders_10 rfl (lv_at hl 1 rfl) ?_
  refine lv_iconst (pc := 11) (v := (-1 : Int32)) hx hb dX0_orders_11 (by decide) ?_
  replace hf := nm_s hf; obtain ⟨I4, hI4, hf⟩ := hf
  refine x_puti (pc := 12) X V okX0 (by decide) ht1 14 (by decide) q374 (Or.inl rfl) hI4 (fun _ _ _ => rfl) rfl rfl dX0_orders_12 (fun H locs V => ?_)
  replace hf := nm_s hf; obtain ⟨T5, hT5, hf⟩ := hf
  replace hf := nm_s hf; obtain ⟨Z6, hZ6, hf⟩ := hf
  replace hf := nm_s hf; obtain ⟨S7, hS7, hf⟩ := hf
  have hm := zX0_orders_b18 hf
  refine x_new (pc := 15) X V okX20 hT5 hZ6 q1422 q1423 q153 (by show _ ≤ kc; omega) (by show _ ≤ ks; omega) dX0_orders_15 (fun H V => ?_)
  exact wX0_orders_b18 X hr hf V (lv_sub hl [1, 0] rfl) ⟨by omega, by omega⟩
theorem mX0_orders {nf : Nat} (l : Launch) (D : va_G) (dA : Nat → ClassId) (s0 : Nat) {kc ks : Nat} {T : xT} {N : xT} {Z : Nat} {S : Nat} {I : xI} {L : xL} {R : xR} {x0 : Nat} {ro : Int32} {To : xT} {No : xT} {Zo : Nat} {So : Nat} {Io : xI} {Lo : xL} {Ro : xR} (hZ : Zo - Z ≤ kc) (hS : So - S ≤ ks) (hf : fX0_orders nf (sv dA) T N Z S I L R x0 = some (ro, To, No, Zo, So, Io, Lo, Ro)) : XMet l D dA s0 yX0_orders (ws_ yX0_orders cX0_orders 10 ((some .int))) (1492) (31958) [.ref x0] T N Z I L R (some (.int ro)) To No Zo Io Lo Ro kc ks :=
  x_start (own := RX0) rfl (by decide) (Nat.le_of_ble_eq_true rfl) (lv := [(0, .ref x0)]) rfl (fun p e s m below meth c ls X hr hini V hl => wX0_orders_e X hr hf V hl ⟨by omega, by omega⟩)
set_option maxHeartbeats 400000 in
set_option maxRecDepth 100000 in
theorem wX0_draw_e {p : Program} {l : Launch} {e : Env} {s : State} {m : MethodId} {args : Array Value} {below : List Frame} {meth : Method} {c : Code} {D : va_G} {dA : Nat → ClassId} {s0 : Nat} {T : xT} {N : xT} {Z : Nat} {I : xI} {L : xL} {R : xR} {H : Heap} {locs : List Loc} {ls : Array Slot} {x0 : Nat} {x1 : Int32} {ro : Int32} {Io : xI} (X : Cx D dA s0 p m c cX0_draw 2 s args RX0 meth) (hr : meth.sig.returnType = (some .int)) (hf : fX0_draw T I x0 x1 = some (ro, Io)) (V : Iv D dA s0 s T N Z I L R H locs) (hl : lv_has ls 2 [(0, .ref x0), (1, .int x1)]) : W p l e { frames := 0, cells := 0, slots := 0, locals := 0 } s m args below meth c H locs 0 0 (MQ below (xQ D dA s0 (some (.int ro)) T N Z Io L R) args s 0 0 (fun q => s0 ≤ q)) (F0 m 0 ls []) := by
  have hx := X.1.1
  have hb := X.1.2.1
  unfold fX0_draw at hf
  refine lv_aload_n (pc := 0) hx hb dX0_draw_0 rfl (lv_at hl 0 rfl) ?_
  refine lv_aload_n (pc := 1) hx hb dX0_draw_1 rfl (lv_at hl 0 rfl) ?_
  replace hf := tg_s hf; obtain ⟨ht1, hf⟩ := hf
  refine x_get (pc := 2) X V okX0 ht1 27 (by decide) q387 (v := .int (I x0 27)) rfl dX0_draw_2 ?_
  refine lv_i2l (pc := 5) hx hb dX0_draw_5 rfl ?_
  refine lv_ldc2 (pc := 6) (v := (jj 1103)) hx hb X.1.2.2.2.1 (X.1.2.2.2.2 _ q1478) dX0_draw_6 ?_
  refine lv_lmul (pc := 9) hx hb dX0_draw_9 ?_
  refine lv_ldc2 (pc := 10) (v := (jj 12345)) hx hb X.1.2.2.2.1 (X.1.2.2.2.2 _ q1479) dX0_draw_10 ?_
  refine lv_ladd (pc := 13) hx hb dX0_draw_13 ?_
  refine lv_ldc2 (pc := 14) (v := (jj 1000003)) hx hb X.1.2.2.2.1 (X.1.2.2.2.2 _ q1480) dX0_draw_14 ?_
  refine lv_lrem (pc := 17) hx hb dX0_draw_17 (by decide) ?_
  refine lv_l2i (pc := 18) hx hb dX0_draw_18 rfl ?_
  replace hf := nm_s hf; obtain ⟨I2, hI2, hf⟩ := hf
  refine x_puti (pc := 19) X V okX0 (by decide) ht1 27 (by decide) q387 (Or.inl rfl) hI2 (fun _ _ _ => rfl) rfl rfl dX0_draw_19 (fun H locs V => ?_)
  refine lv_aload_n (pc := 22) hx hb dX0_draw_22 rfl (lv_at hl 0 rfl) ?_
  refine x_get (pc := 23) X V okX0 ht1 27 (by decide) q387 (v := .int (I2 x0 27)) rfl dX0_draw_23 ?_
  refine lv_iload_n (pc := 26) hx hb dX0_draw_26 rfl (lv_at hl 1 rfl) ?_
  replace hf := chk_s hf; obtain ⟨hc3, hf⟩ := hf
  refine lv_irem (pc := 27) hx hb dX0_draw_27 (of_decide_eq_true hc3) ?_
  cases hf
  exact x_iret (pc := 28) X V hr dX0_draw_28
theorem mX0_draw (l : Launch) (D : va_G) (dA : Nat → ClassId) (s0 : Nat) {T : xT} {N : xT} {Z : Nat} {I : xI} {L : xL} {R : xR} {x0 : Nat} {x1 : Int32} {ro : Int32} {Io : xI} (hf : fX0_draw T I x0 x1 = some (ro, Io)) : XMet l D dA s0 yX0_draw (ws_ yX0_draw cX0_draw 2 ((some .int))) (0) (0) [.ref x0, .int x1] T N Z I L R (some (.int ro)) T N Z Io L R 0 0 :=
  x_start (own := RX0) rfl (by decide) (Nat.le_of_ble_eq_true rfl) (lv := [(0, .ref x0), (1, .int x1)]) rfl (fun p e s m below meth c ls X hr hini V hl => wX0_draw_e X hr hf V hl)
set_option maxHeartbeats 400000 in
set_option maxRecDepth 100000 in
theorem wX0_decades_b182 {nf : Nat} {p : Program} {l : Launch} {e : Env} {s : State} {m : MethodId} {args : Array Value} {below : List Frame} {meth : Method} {c : Code} {D : va_G} {dA : Nat → ClassId} {s0 : Nat} {T : xT} {N : xT} {Z : Nat} {I : xI} {L : xL} {R : xR} {H : Heap} {locs : List Loc} {ls : Array Slot}  {x0 : Nat} {x3 : Nat} {ro : Int32} {Io : xI} {Lo : xL} (X : Cx D dA s0 p m c cX0_decades 8 s args RX0 meth) (hr : meth.sig.returnType = (some .int))   (hf : fX0_decades_b182 nf T N I L R x0 x3 = some (ro, Io, Lo)) (V : Iv D dA s0 s T N Z I L R H locs) (hl : lv_has ls 8 [(0, .ref x0), (3, .ref x3)]) : W p l e { frames := 195, cells := 0, slots := 0, locals := 9452 } s m args below meth c H locs 0 0 (MQ below (xQ D dA s0 (some (.int ro)) T N Z Io Lo R) args s 0 0 (fun q => s0 ≤ q)) (F0 m 182 ls []) := by
  have hx := X.1.1
  have hb := X.1.2.1
  unfold fX0_decades_b182 at hf
  refine lv_aload_n (pc := 182) hx hb dX0_decades_182 rfl (lv_at hl 0 rfl) ?_
  refine lv_aload_n (pc := 183) hx hb dX0_decades_183 rfl (lv_at hl 1 rfl) ?_
  refine lv_aload_n (pc := 184) hx hb dX0_decades_184 rfl (lv_at hl 0 rfl) ?_
  replace hf := tg_s hf; obtain ⟨ht1, hf⟩ := hf
  replace hf := bs hf; obtain ⟨a2, ha2, hf⟩ := hf
  refine x_get (pc := 185) X V okX0 ht1 2 (by decide) q362 (v := va_rf (R x0 2)) rfl dX0_decades_185 ?_
  refine x_topr ha2 ?_
  replace hf := tg_s hf; obtain ⟨ht3, hf⟩ := hf
  refine x_getN (pc := 188) X V okX1 ht3 8 (by decide) q238 (v := .int (I a2 8)) rfl dX0_decades_188 ?_
  replace hf := tg_s hf; obtain ⟨ht6, hf⟩ := hf
  replace hf := bs hf; obtain ⟨r4, hk_5, hf⟩ := hf
  refine x_callV0 (pc := 191) (As := [.int (I a2 8)]) (rest := [.ref x0]) X V (mX2_namedOf l D dA s0 hk_5) okX2 ht6 q1447 q1448 q1449 q121 q1450 ⟨rfl, hsX2_namedOf⟩ ⟨Nat.le_of_ble_eq_true rfl, Nat.le_of_ble_eq_true rfl⟩ rfl hl.1 rfl (Nat.le_of_ble_eq_true rfl) dX0_decades_191 ⟨Nat.zero_le _, Nat.zero_le _⟩ (fun H locs V => W.eq (g2 := F0 m 194 ls [.int r4, .ref x0]) rfl ?_)
  replace hf := b2s hf; obtain ⟨r7, I8, hk_9, hf⟩ := hf
  refine x_callV0 (pc := 194) (As := [.int r4]) (rest := []) X V (mX0_done l D dA s0 hk_9) okX0 ht1 q542 q544 qs3 q119 q545 ⟨rfl, hsX0_done⟩ ⟨Nat.le_of_ble_eq_true rfl, Nat.le_of_ble_eq_true rfl⟩ rfl hl.1 rfl (Nat.le_of_ble_eq_true rfl) dX0_decades_194 ⟨Nat.zero_le _, Nat.zero_le _⟩ (fun H locs V => W.eq (g2 := F0 m 197 ls [.int r7]) rfl ?_)
  cases hf
  exact x_iret (pc := 197) X V hr dX0_decades_197
set_option maxHeartbeats 400000 in
set_option maxRecDepth 100000 in
theorem wX0_decades_b170 {nf : Nat} {p : Program} {l : Launch} {e : Env} {s : State} {m : MethodId} {args : Array Value} {below : List Frame} {meth : Method} {c : Code} {D : va_G} {dA : Nat → ClassId} {s0 : Nat} {T : xT} {N : xT} {Z : Nat} {I : xI} {L : xL} {R : xR} {H : Heap} {locs : List Loc} {ls : Array Slot} {kk87 : xI → xL → Nat → Int32 → Nat → Int32 → Option (Int32 × xI × xL)} {x0 : Nat} {x2 : Int32} {x3 : Nat} {x4 : Int32} {ro : Int32} {Io : xI} {Lo : xL} (X : Cx D dA s0 p m c cX0_decades 8 s args RX0 meth) (hr : meth.sig.returnType = (some .int)) (hk87 : ∀ {I : xI} {L : xL} {x0 : Nat} {x2 : Int32} {x3 : Nat} {x4 : Int32} {H : Heap} {locs : List Loc} {ls : Array Slot} , kk87 I L x0 x2 x3 x4 = some (ro, Io, Lo) → Iv D dA s0 s T N Z I L R H locs → lv_has ls 8 [(0, .ref x0), (2, .int x2), (3, .ref x3), (4, .int x4)] → W p l e { frames := 195, cells := 0, slots := 0, locals := 9452 } s m args below meth c H locs 0 0 (MQ below (xQ D dA s0 (some (.int ro)) T N Z Io Lo R) args s 0 0 (fun q => s0 ≤ q)) (F0 m 87 ls []))  (hf : fX0_decades_b170 nf kk87 T N I L R x0 x2 x3 x4 = some (ro, Io, Lo)) (V : Iv D dA s0 s T N Z I L R H locs) (hl : lv_has ls 8 [(0, .ref x0), (2, .int x2), (3, .ref x3), (4, .int x4)]) : W p l e { frames := 195, cells := 0, slots := 0, locals := 9452 } s m args below meth c H locs 0 0 (MQ below (xQ D dA s0 (some (.int ro)) T N Z Io Lo R) args s 0 0 (fun q => s0 ≤ q)) (F0 m 170 ls []) := by
  have hx := X.1.1
  have hb := X.1.2.1
  unfold fX0_decades_b170 at hf
  refine lv_aload_n (pc := 170) hx hb dX0_decades_170 rfl (lv_at hl 0 rfl) ?_
  refine lv_aload_n (pc := 171) hx hb dX0_decades_171 rfl (lv_at hl 2 rfl) ?_
  replace hf := tg_s hf; obtain ⟨ht5, hf⟩ := hf
  replace hf := b3s hf; obtain ⟨r1, I2, L3, hk_4, hf⟩ := hf
  refine x_callV0 (pc := 172) (As := [.ref x3]) (rest := []) X V (mX0_passes l D dA s0 hk_4) okX0 ht5 q1268 q1270 qs27 q119 q1271 ⟨rfl, hsX0_passes⟩ ⟨Nat.le_of_ble_eq_true rfl, Nat.le_of_ble_eq_true rfl⟩ rfl hl.1 rfl (Nat.le_of_ble_eq_true rfl) dX0_decades_172 ⟨Nat.zero_le _, Nat.zero_le _⟩ (fun H locs V => W.eq (g2 := F0 m 175 ls [.int r1]) rfl ?_)
  refine lv_pop (pc := 175) hx hb dX0_decades_175 rfl ?_
  replace hf := nm_s hf; obtain ⟨u6, hu6, hf⟩ := hf
  refine lv_iinc (pc := 176) (v := u6) (lv' := [(4, .int u6), (0, .ref x0), (2, .int x2), (3, .ref x3)]) hx hb dX0_decades_176 hl (k := 3) rfl (by rw [hu6]; rfl) (by decide) rfl (fun ls hl => ?_)
  refine lv_goto (pc := 179) (tgt := 87) hx hb dX0_decades_179 (by decide) ?_
  exact hk87 hf V (lv_sub hl [1, 2, 3, 0] rfl)
set_option maxHeartbeats 400000 in
set_option maxRecDepth 100000 in
theorem wX0_decades_b155 {nf : Nat} {p : Program} {l : Launch} {e : Env} {s : State} {m : MethodId} {args : Array Value} {below : List Frame} {meth : Method} {c : Code} {D : va_G} {dA : Nat → ClassId} {s0 : Nat} {T : xT} {N : xT} {Z : Nat} {I : xI} {L : xL} {R : xR} {H : Heap} {locs : List Loc} {ls : Array Slot} {kk87 : xI → xL → Nat → Int32 → Nat → Int32 → Option (Int32 × xI × xL)} {x0 : Nat} {x2 : Int32} {x3 : Nat} {x4 : Int32} {x5 : Int32} {x6 : Int32} {x7 : Int32} {ro : Int32} {Io : xI} {Lo : xL} (X : Cx D dA s0 p m c cX0_decades 8 s args RX0 meth) (hr : meth.sig.returnType = (some .int)) (hk87 : ∀ {I : xI} {L : xL} {x0 : Nat} {x2 : Int32} {x3 : Nat} {x4 : Int32} {H : Heap} {locs : List Loc} {ls : Array Slot} , kk87 I L x0 x2 x3 x4 = some (ro, Io, Lo) → Iv D dA s0 s T N Z I L R H locs → lv_has ls 8 [(0, .ref x0), (2, .int x2), (3, .ref x3), (4, .int x4)] → W p l e { frames := 195, cells := 0, slots := 0, locals := 9452 } s m args below meth c H locs 0 0 (MQ below (xQ D dA s0 (some (.int ro)) T N Z Io Lo R) args s 0 0 (fun q => s0 ≤ q)) (F0 m 87 ls []))  (hf : fX0_decades_b155 nf kk87 T N I L R x0 x2 x3 x4 x5 x6 x7 = some (ro, Io, Lo)) (V : Iv D dA s0 s T N Z I L R H locs) (hl : lv_has ls 8 [(0, .ref x0), (2, .int x2), (3, .ref x3), (4, .int x4), (5, .int x5), (6, .int x6), (7, .int x7)]) : W p l e { frames := 195, cells := 0, slots := 0, locals := 9452 } s m args below meth c H locs 0 0 (MQ below (xQ D dA s0 (some (.int ro)) T N Z Io Lo R) args s 0 0 (fun q => s0 ≤ q)) (F0 m 155 ls []) := by
  have hx := X.1.1
  have hb := X.1.2.1
  unfold fX0_decades_b155 at hf
  refine lv_iload (pc := 155) hx hb dX0_decades_155 (lv_at hl 6 rfl) ?_
  refine lv_iconst (pc := 157) (v := (ii 2)) hx hb dX0_decades_157 (by decide) ?_
  refine lv_icmp_ne (pc := 158) (tgt := 170) hx hb dX0_decades_158 (by decide) (fun c1 => ?_) (fun c1 => ?_)
  · replace hf := if_f hf c1
    exact wX0_decades_b170 X hr hk87 hf V (lv_sub hl [0, 1, 2, 3] rfl)
  · replace hf := if_t hf c1
    refine lv_aload_n (pc := 161) hx hb dX0_decades_161 rfl (lv_at hl 2 rfl) ?_
    replace hf := tg_s hf; obtain ⟨ht2, hf⟩ := hf
    replace hf := bs hf; obtain ⟨a3, ha3, hf⟩ := hf
    refine x_getN (pc := 162) X V okX2 ht2 0 (by decide) q176 (v := va_rf (R x3 0)) rfl dX0_decades_162 ?_
    refine x_topr ha3 ?_
    refine lv_iload (pc := 165) hx hb dX0_decades_165 (lv_at hl 4 rfl) ?_
    refine lv_iload (pc := 167) hx hb dX0_decades_167 (lv_at hl 5 rfl) ?_
    replace hf := rA_s hf; obtain ⟨j4, hjj4, htj4, hij4, hf⟩ := hf
    replace hf := nm_s hf; obtain ⟨I5, hI5, hf⟩ := hf
    refine x_iast (pc := 169) X V htj4 hij4 hjj4 hI5 dX0_decades_169 (fun H locs V => ?_)
    exact wX0_decades_b170 X hr hk87 hf V (lv_sub hl [0, 1, 2, 3] rfl)
set_option maxHeartbeats 400000 in
set_option maxRecDepth 100000 in
theorem wX0_decades_b87 {nf : Nat} {p : Program} {l : Launch} {e : Env} {s : State} {m : MethodId} {args : Array Value} {below : List Frame} {meth : Method} {c : Code} {D : va_G} {dA : Nat → ClassId} {s0 : Nat} {T : xT} {N : xT} {Z : Nat} {R : xR}  {ro : Int32} {Io : xI} {Lo : xL} (X : Cx D dA s0 p m c cX0_decades 8 s args RX0 meth) (hr : meth.sig.returnType = (some .int))   (k : Nat) : ∀ {I : xI} {L : xL} {x0 : Nat} {x2 : Int32} {x3 : Nat} {x4 : Int32} {H : Heap} {locs : List Loc} {ls : Array Slot} , fX0_decades_b87 nf T N R k I L x0 x2 x3 x4 = some (ro, Io, Lo) → Iv D dA s0 s T N Z I L R H locs → lv_has ls 8 [(0, .ref x0), (2, .int x2), (3, .ref x3), (4, .int x4)] → W p l e { frames := 195, cells := 0, slots := 0, locals := 9452 } s m args below meth c H locs 0 0 (MQ below (xQ D dA s0 (some (.int ro)) T N Z Io Lo R) args s 0 0 (fun q => s0 ≤ q)) (F0 m 87 ls []) := by
  have hx := X.1.1
  have hb := X.1.2.1
  induction k with
  | zero =>
    intro I L x0 x2 x3 x4 H locs ls hf V hl
    exact absurd (show none = some _ from hf) (fun q => nomatch q)
  | succ k ih =>
    intro I L x0 x2 x3 x4 H locs ls hf V hl
    rw [fX0_decades_b87] at hf
    refine lv_iload (pc := 87) hx hb dX0_decades_87 (lv_at hl 3 rfl) ?_
    refine lv_iload_n (pc := 89) hx hb dX0_decades_89 rfl (lv_at hl 1 rfl) ?_
    refine lv_icmp_ge (pc := 90) (tgt := 182) hx hb dX0_decades_90 (by decide) (fun c1 => ?_) (fun c1 => ?_)
    · replace hf := if_t hf c1
      exact wX0_decades_b182 X hr hf V (lv_sub hl [0, 2] rfl)
    · replace hf := if_f hf c1
      refine lv_aload_n (pc := 93) hx hb dX0_decades_93 rfl (lv_at hl 2 rfl) ?_
      replace hf := tg_s hf; obtain ⟨ht2, hf⟩ := hf
      refine x_getN (pc := 94) X V okX2 ht2 3 (by decide) q182 (v := .int (I x3 3)) rfl dX0_decades_94 ?_
      refine lv_sipush (pc := 97) (v := (ii 999)) hx hb dX0_decades_97 (by decide) ?_
      refine lv_icmp_ge (pc := 100) (tgt := 182) hx hb dX0_decades_100 (by decide) (fun c3 => ?_) (fun c3 => ?_)
      · replace hf := if_t hf c3
        exact wX0_decades_b182 X hr hf V (lv_sub hl [0, 2] rfl)
      · replace hf := if_f hf c3
        refine lv_aload_n (pc := 103) hx hb dX0_decades_103 rfl (lv_at hl 0 rfl) ?_
        refine lv_aload_n (pc := 104) hx hb dX0_decades_104 rfl (lv_at hl 0 rfl) ?_
        replace hf := tg_s hf; obtain ⟨ht4, hf⟩ := hf
        replace hf := bs hf; obtain ⟨a5, ha5, hf⟩ := hf
        refine x_get (pc := 105) X V okX0 ht4 2 (by decide) q362 (v := va_rf (R x0 2)) rfl dX0_decades_105 ?_
        refine x_topr ha5 ?_
        replace hf := tg_s hf; obtain ⟨ht6, hf⟩ := hf
        refine x_getN (pc := 108) X V okX1 ht6 9 (by decide) q240 (v := .int (I a5 9)) rfl dX0_decades_108 ?_
        replace hf := b2s hf; obtain ⟨r7, I8, hk_9, hf⟩ := hf
        refine x_callV0 (pc := 111) (As := [.int (I a5 9)]) (rest := []) X V (mX0_draw l D dA s0 hk_9) okX0 ht4 q1474 q1476 qs44 q119 q1477 ⟨rfl, hsX0_draw⟩ ⟨Nat.le_of_ble_eq_true rfl, Nat.le_of_ble_eq_true rfl⟩ rfl hl.1 rfl (Nat.le_of_ble_eq_true rfl) dX0_decades_111 ⟨Nat.zero_le _, Nat.zero_le _⟩ (fun H locs V => W.eq (g2 := F0 m 114 ls [.int r7]) rfl ?_)
        refine lv_istore (pc := 114) (lv' := [(5, .int r7), (0, .ref x0), (2, .int x2), (3, .ref x3), (4, .int x4)]) hx hb dX0_decades_114 hl (by decide) rfl (fun ls hl => ?_)
        refine lv_aload_n (pc := 116) hx hb dX0_decades_116 rfl (lv_at hl 1 rfl) ?_
        refine lv_bipush (pc := 117) (v := (ii 8)) hx hb dX0_decades_117 (by decide) ?_
        replace hf := b2s hf; obtain ⟨r10, I11, hk_12, hf⟩ := hf
        refine x_callV0 (pc := 119) (As := [.int (ii 8)]) (rest := []) X V (mX0_draw l D dA s0 hk_12) okX0 ht4 q1474 q1476 qs44 q119 q1477 ⟨rfl, hsX0_draw⟩ ⟨Nat.le_of_ble_eq_true rfl, Nat.le_of_ble_eq_true rfl⟩ rfl hl.1 rfl (Nat.le_of_ble_eq_true rfl) dX0_decades_119 ⟨Nat.zero_le _, Nat.zero_le _⟩ (fun H locs V => W.eq (g2 := F0 m 122 ls [.int r10]) rfl ?_)
        refine lv_istore (pc := 122) (lv' := [(6, .int r10), (5, .int r7), (0, .ref x0), (2, .int x2), (3, .ref x3), (4, .int x4)]) hx hb dX0_decades_122 hl (by decide) rfl (fun ls hl => ?_)
        refine lv_aload_n (pc := 124) hx hb dX0_decades_124 rfl (lv_at hl 2 rfl) ?_
        refine lv_iconst (pc := 125) (v := (ii 4)) hx hb dX0_decades_125 (by decide) ?_
        replace hf := b2s hf; obtain ⟨r13, I14, hk_15, hf⟩ := hf
        refine x_callV0 (pc := 126) (As := [.int (ii 4)]) (rest := []) X V (mX0_draw l D dA s0 hk_15) okX0 ht4 q1474 q1476 qs44 q119 q1477 ⟨rfl, hsX0_draw⟩ ⟨Nat.le_of_ble_eq_true rfl, Nat.le_of_ble_eq_true rfl⟩ rfl hl.1 rfl (Nat.le_of_ble_eq_true rfl) dX0_decades_126 ⟨Nat.zero_le _, Nat.zero_le _⟩ (fun H locs V => W.eq (g2 := F0 m 129 ls [.int r13]) rfl ?_)
        refine lv_istore (pc := 129) (lv' := [(7, .int r13), (6, .int r10), (5, .int r7), (0, .ref x0), (2, .int x2), (3, .ref x3), (4, .int x4)]) hx hb dX0_decades_129 hl (by decide) rfl (fun ls hl => ?_)
        refine lv_iload (pc := 131) hx hb dX0_decades_131 (lv_at hl 0 rfl) ?_
        refine lv_iconst (pc := 133) (v := (ii 2)) hx hb dX0_decades_133 (by decide) ?_
        refine lv_icmp_ge (pc := 134) (tgt := 155) hx hb dX0_decades_134 (by decide) (fun c16 => ?_) (fun c16 => ?_)
        · replace hf := if_t hf c16
          exact wX0_decades_b155 X hr ih hf V (lv_sub hl [3, 4, 5, 6, 2, 1, 0] rfl)
        · replace hf := if_f hf c16
          refine lv_aload_n (pc := 137) hx hb dX0_decades_137 rfl (lv_at hl 5 rfl) ?_
          replace hf := bs hf; obtain ⟨a17, ha17, hf⟩ := hf
          refine x_getN (pc := 138) X V okX2 ht2 1 (by decide) q178 (v := va_rf (R x3 1)) rfl dX0_decades_138 ?_
          refine x_topr ha17 ?_
          refine lv_iload (pc := 141) hx hb dX0_decades_141 (lv_at hl 2 rfl) ?_
          replace hf := rA_s hf; obtain ⟨j18, hjj18, htj18, hij18, hf⟩ := hf
          refine x_iald (pc := 143) X V htj18 hij18 hjj18 dX0_decades_143 ?_
          refine lv_iconst (pc := 144) (v := (-1 : Int32)) hx hb dX0_decades_144 (by decide) ?_
          refine lv_icmp_eq (pc := 145) (tgt := 155) hx hb dX0_decades_145 (by decide) (fun c19 => ?_) (fun c19 => ?_)
          · replace hf := if_t hf c19
            exact wX0_decades_b155 X hr ih hf V (lv_sub hl [3, 4, 5, 6, 2, 1, 0] rfl)
          · replace hf := if_f hf c19
            refine lv_aload_n (pc := 148) hx hb dX0_decades_148 rfl (lv_at hl 3 rfl) ?_
            refine lv_aload_n (pc := 149) hx hb dX0_decades_149 rfl (lv_at hl 5 rfl) ?_
            refine lv_iload (pc := 150) hx hb dX0_decades_150 (lv_at hl 2 rfl) ?_
            replace hf := b2s hf; obtain ⟨I20, L21, hk_22, hf⟩ := hf
            refine x_callV0 (pc := 152) (As := [.ref x3, .int r7]) (rest := []) X V (mX0_criesOut l D dA s0 hk_22) okX0 ht4 q1248 q1250 qs24 q119 q1251 ⟨rfl, hsX0_criesOut⟩ ⟨Nat.le_of_ble_eq_true rfl, Nat.le_of_ble_eq_true rfl⟩ rfl hl.1 rfl (Nat.le_of_ble_eq_true rfl) dX0_decades_152 ⟨Nat.zero_le _, Nat.zero_le _⟩ (fun H locs V => W.eq (g2 := F0 m 155 ls []) rfl ?_)
            exact wX0_decades_b155 X hr ih hf V (lv_sub hl [3, 4, 5, 6, 2, 1, 0] rfl)
set_option maxHeartbeats 400000 in
set_option maxRecDepth 100000 in
theorem wX0_decades_e {nf : Nat} {p : Program} {l : Launch} {e : Env} {s : State} {m : MethodId} {args : Array Value} {below : List Frame} {meth : Method} {c : Code} {D : va_G} {dA : Nat → ClassId} {s0 : Nat} {T : xT} {N : xT} {Z : Nat} {I : xI} {L : xL} {R : xR} {H : Heap} {locs : List Loc} {ls : Array Slot} {x0 : Nat} {x1 : Int32} {x2 : Int32} {ro : Int32} {Io : xI} {Lo : xL} (X : Cx D dA s0 p m c cX0_decades 8 s args RX0 meth) (hr : meth.sig.returnType = (some .int)) (hf : fX0_decades nf T N I L R x0 x1 x2 = some (ro, Io, Lo)) (V : Iv D dA s0 s T N Z I L R H locs) (hl : lv_has ls 8 [(0, .ref x0), (1, .int x1), (2, .int x2)]) : W p l e { frames := 195, cells := 0, slots := 0, locals := 9452 } s m args below meth c H locs 0 0 (MQ below (xQ D dA s0 (some (.int ro)) T N Z Io Lo R) args s 0 0 (fun q => s0 ≤ q)) (F0 m 0 ls []) := by
  have hx := X.1.1
  have hb := X.1.2.1
  unfold fX0_decades at hf
  refine lv_iload_n (pc := 0) hx hb dX0_decades_0 rfl (lv_at hl 1 rfl) ?_
  refine lv_iconst (pc := 1) (v := (ii 0)) hx hb dX0_decades_1 (by decide) ?_
  refine lv_ldcw (pc := 2) (v := (ii 1000000)) hx hb X.1.2.2.2.1 (X.1.2.2.2.2 _ q1292) dX0_decades_2 ?_
  replace hf := bs hf; obtain ⟨r1, hk_2, hf⟩ := hf
  refine x_callS0 (pc := 5) (As := [.int x1, .int (ii 0), .int (ii 1000000)]) (rest := []) X V (mX0_in l D dA s0 hk_2) q449 q450 q119 q451 hsX0_in ⟨Nat.le_of_ble_eq_true rfl, Nat.le_of_ble_eq_true rfl⟩ rfl hl.1 rfl (Nat.le_of_ble_eq_true rfl) dX0_decades_5 ⟨Nat.zero_le _, Nat.zero_le _⟩ (fun H locs V => W.eq (g2 := F0 m 8 ls [.int r1]) rfl ?_)
  refine lv_if_eq (pc := 8) (tgt := 21) hx hb dX0_decades_8 (by decide) (fun c3 => ?_) (fun c3 => ?_)
  · replace hf := if_t hf c3
    refine lv_aload_n (pc := 21) hx hb dX0_decades_21 rfl (lv_at hl 0 rfl) ?_
    refine lv_iconst (pc := 22) (v := (-1 : Int32)) hx hb dX0_decades_22 (by decide) ?_
    replace hf := tg_s hf; obtain ⟨ht7, hf⟩ := hf
    replace hf := b2s hf; obtain ⟨r4, I5, hk_6, hf⟩ := hf
    refine x_callV0 (pc := 23) (As := [.int (-1 : Int32)]) (rest := []) X V (mX0_refuse l D dA s0 hk_6) okX0 ht7 q452 q454 qs1 q119 q455 ⟨rfl, hsX0_refuse⟩ ⟨Nat.le_of_ble_eq_true rfl, Nat.le_of_ble_eq_true rfl⟩ rfl hl.1 rfl (Nat.le_of_ble_eq_true rfl) dX0_decades_23 ⟨Nat.zero_le _, Nat.zero_le _⟩ (fun H locs V => W.eq (g2 := F0 m 26 ls [.int r4]) rfl ?_)
    cases hf
    exact x_iret (pc := 26) X V hr dX0_decades_26
  · replace hf := if_f hf c3
    refine lv_iload_n (pc := 11) hx hb dX0_decades_11 rfl (lv_at hl 2 rfl) ?_
    refine lv_iconst (pc := 12) (v := (ii 1)) hx hb dX0_decades_12 (by decide) ?_
    refine lv_bipush (pc := 13) (v := (ii 60)) hx hb dX0_decades_13 (by decide) ?_
    replace hf := bs hf; obtain ⟨r8, hk_9, hf⟩ := hf
    refine x_callS0 (pc := 15) (As := [.int x2, .int (ii 1), .int (ii 60)]) (rest := []) X V (mX0_in l D dA s0 hk_9) q449 q450 q119 q451 hsX0_in ⟨Nat.le_of_ble_eq_true rfl, Nat.le_of_ble_eq_true rfl⟩ rfl hl.1 rfl (Nat.le_of_ble_eq_true rfl) dX0_decades_15 ⟨Nat.zero_le _, Nat.zero_le _⟩ (fun H locs V => W.eq (g2 := F0 m 18 ls [.int r8]) rfl ?_)
    refine lv_if_ne (pc := 18) (tgt := 27) hx hb dX0_decades_18 (by decide) (fun c10 => ?_) (fun c10 => ?_)
    · replace hf := if_f hf c10
      refine lv_aload_n (pc := 27) hx hb dX0_decades_27 rfl (lv_at hl 0 rfl) ?_
      replace hf := tg_s hf; obtain ⟨ht11, hf⟩ := hf
      replace hf := bs hf; obtain ⟨a12, ha12, hf⟩ := hf
      refine x_get (pc := 28) X V okX0 ht11 2 (by decide) q362 (v := va_rf (R x0 2)) rfl dX0_decades_28 ?_
      refine x_topr ha12 ?_
      replace hf := tg_s hf; obtain ⟨ht13, hf⟩ := hf
      refine x_getN (pc := 31) X V okX1 ht13 9 (by decide) q240 (v := .int (I a12 9)) rfl dX0_decades_31 ?_
      refine lv_if_ne (pc := 34) (tgt := 44) hx hb dX0_decades_34 (by decide) (fun c14 => ?_) (fun c14 => ?_)
      · replace hf := if_f hf c14
        refine lv_aload_n (pc := 44) hx hb dX0_decades_44 rfl (lv_at hl 0 rfl) ?_
        refine lv_iload_n (pc := 45) hx hb dX0_decades_45 rfl (lv_at hl 1 rfl) ?_
        replace hf := nm_s hf; obtain ⟨I15, hI15, hf⟩ := hf
        refine x_puti (pc := 46) X V okX0 (by decide) ht11 27 (by decide) q387 (Or.inl rfl) hI15 (fun _ _ _ => rfl) rfl rfl dX0_decades_46 (fun H locs V => ?_)
        refine lv_aload_n (pc := 49) hx hb dX0_decades_49 rfl (lv_at hl 0 rfl) ?_
        refine lv_aload_n (pc := 50) hx hb dX0_decades_50 rfl (lv_at hl 0 rfl) ?_
        refine x_get (pc := 51) X V okX0 ht11 2 (by decide) q362 (v := va_rf (R x0 2)) rfl dX0_decades_51 ?_
        refine x_topr ha12 ?_
        refine x_getN (pc := 54) X V okX1 ht13 9 (by decide) q240 (v := .int (I15 a12 9)) rfl dX0_decades_54 ?_
        replace hf := nm_s hf; obtain ⟨I16, hI16, hf⟩ := hf
        refine x_puti (pc := 57) X V okX0 (by decide) ht11 25 (by decide) q385 (Or.inl rfl) hI16 (fun _ _ _ => rfl) rfl rfl dX0_decades_57 (fun H locs V => ?_)
        refine lv_aload_n (pc := 60) hx hb dX0_decades_60 rfl (lv_at hl 0 rfl) ?_
        refine lv_aload_n (pc := 61) hx hb dX0_decades_61 rfl (lv_at hl 0 rfl) ?_
        refine x_get (pc := 62) X V okX0 ht11 2 (by decide) q362 (v := va_rf (R x0 2)) rfl dX0_decades_62 ?_
        refine x_topr ha12 ?_
        refine x_getN (pc := 65) X V okX1 ht13 8 (by decide) q238 (v := .int (I16 a12 8)) rfl dX0_decades_65 ?_
        replace hf := nm_s hf; obtain ⟨I17, hI17, hf⟩ := hf
        refine x_puti (pc := 68) X V okX0 (by decide) ht11 26 (by decide) q386 (Or.inl rfl) hI17 (fun _ _ _ => rfl) rfl rfl dX0_decades_68 (fun H locs V => ?_)
        refine lv_aload_n (pc := 71) hx hb dX0_decades_71 rfl (lv_at hl 0 rfl) ?_
        replace hf := bs hf; obtain ⟨a18, ha18, hf⟩ := hf
        refine x_get (pc := 72) X V okX0 ht11 24 (by decide) q384 (v := va_rf (R x0 24)) rfl dX0_decades_72 ?_
        refine x_topr ha18 ?_
        refine lv_astore_n (pc := 75) (lv' := [(3, .ref a18), (0, .ref x0), (1, .int x1), (2, .int x2)]) hx hb dX0_decades_75 rfl hl (by decide) rfl (fun ls hl => ?_)
        refine lv_aload_n (pc := 76) hx hb dX0_decades_76 rfl (lv_at hl 0 rfl) ?_
        refine lv_aload_n (pc := 77) hx hb dX0_decades_77 rfl (lv_at hl 1 rfl) ?_
        replace hf := bs hf; obtain ⟨r19, hk_20, hf⟩ := hf
        refine x_callV0 (pc := 78) (As := []) (rest := [.ref a18]) X V (mX0_table l D dA s0 hk_20) okX0 ht11 q568 q570 qs6 q119 q571 ⟨rfl, hsX0_table⟩ ⟨Nat.le_of_ble_eq_true rfl, Nat.le_of_ble_eq_true rfl⟩ rfl hl.1 rfl (Nat.le_of_ble_eq_true rfl) dX0_decades_78 ⟨Nat.zero_le _, Nat.zero_le _⟩ (fun H locs V => W.eq (g2 := F0 m 81 ls [.ref r19, .ref a18]) rfl ?_)
        replace hf := tg_s hf; obtain ⟨ht23, hf⟩ := hf
        replace hf := bs hf; obtain ⟨I21, hk_22, hf⟩ := hf
        refine x_callV0 (pc := 81) (As := [.ref r19]) (rest := []) X V (mX2_takes l D dA s0 hk_22) okX2 ht23 q1227 q461 q462 q121 q463 ⟨rfl, hsX2_takes⟩ ⟨Nat.le_of_ble_eq_true rfl, Nat.le_of_ble_eq_true rfl⟩ rfl hl.1 rfl (Nat.le_of_ble_eq_true rfl) dX0_decades_81 ⟨Nat.zero_le _, Nat.zero_le _⟩ (fun H locs V => W.eq (g2 := F0 m 84 ls []) rfl ?_)
        refine lv_iconst (pc := 84) (v := (ii 0)) hx hb dX0_decades_84 (by decide) ?_
        refine lv_istore (pc := 85) (lv' := [(4, .int (ii 0)), (3, .ref a18), (0, .ref x0), (1, .int x1), (2, .int x2)]) hx hb dX0_decades_85 hl (by decide) rfl (fun ls hl => ?_)
        exact wX0_decades_b87 X hr nf hf V (lv_sub hl [2, 4, 1, 0] rfl)
      · replace hf := if_t hf c14
        refine lv_aload_n (pc := 37) hx hb dX0_decades_37 rfl (lv_at hl 0 rfl) ?_
        refine lv_bipush (pc := 38) (v := (-3 : Int32)) hx hb dX0_decades_38 (by decide) ?_
        replace hf := b2s hf; obtain ⟨r24, I25, hk_26, hf⟩ := hf
        refine x_callV0 (pc := 40) (As := [.int (-3 : Int32)]) (rest := []) X V (mX0_refuse l D dA s0 hk_26) okX0 ht11 q452 q454 qs1 q119 q455 ⟨rfl, hsX0_refuse⟩ ⟨Nat.le_of_ble_eq_true rfl, Nat.le_of_ble_eq_true rfl⟩ rfl hl.1 rfl (Nat.le_of_ble_eq_true rfl) dX0_decades_40 ⟨Nat.zero_le _, Nat.zero_le _⟩ (fun H locs V => W.eq (g2 := F0 m 43 ls [.int r24]) rfl ?_)
        cases hf
        exact x_iret (pc := 43) X V hr dX0_decades_43
    · replace hf := if_t hf c10
      refine lv_aload_n (pc := 21) hx hb dX0_decades_21 rfl (lv_at hl 0 rfl) ?_
      refine lv_iconst (pc := 22) (v := (-1 : Int32)) hx hb dX0_decades_22 (by decide) ?_
      replace hf := tg_s hf; obtain ⟨ht30, hf⟩ := hf
      replace hf := b2s hf; obtain ⟨r27, I28, hk_29, hf⟩ := hf
      refine x_callV0 (pc := 23) (As := [.int (-1 : Int32)]) (rest := []) X V (mX0_refuse l D dA s0 hk_29) okX0 ht30 q452 q454 qs1 q119 q455 ⟨rfl, hsX0_refuse⟩ ⟨Nat.le_of_ble_eq_true rfl, Nat.le_of_ble_eq_true rfl⟩ rfl hl.1 rfl (Nat.le_of_ble_eq_true rfl) dX0_decades_23 ⟨Nat.zero_le _, Nat.zero_le _⟩ (fun H locs V => W.eq (g2 := F0 m 26 ls [.int r27]) rfl ?_)
      cases hf
      exact x_iret (pc := 26) X V hr dX0_decades_26
theorem mX0_decades {nf : Nat} (l : Launch) (D : va_G) (dA : Nat → ClassId) (s0 : Nat) {T : xT} {N : xT} {Z : Nat} {I : xI} {L : xL} {R : xR} {x0 : Nat} {x1 : Int32} {x2 : Int32} {ro : Int32} {Io : xI} {Lo : xL} (hf : fX0_decades nf T N I L R x0 x1 x2 = some (ro, Io, Lo)) : XMet l D dA s0 yX0_decades (ws_ yX0_decades cX0_decades 8 ((some .int))) (195) (9452) [.ref x0, .int x1, .int x2] T N Z I L R (some (.int ro)) T N Z Io Lo R 0 0 :=
  x_start (own := RX0) rfl (by decide) (Nat.le_of_ble_eq_true rfl) (lv := [(0, .ref x0), (1, .int x1), (2, .int x2)]) rfl (fun p e s m below meth c ls X hr hini V hl => wX0_decades_e X hr hf V hl)
set_option maxHeartbeats 400000 in
set_option maxRecDepth 100000 in
theorem wX0_drawn_b34 {p : Program} {l : Launch} {e : Env} {s : State} {m : MethodId} {args : Array Value} {below : List Frame} {meth : Method} {c : Code} {D : va_G} {dA : Nat → ClassId} {s0 : Nat} {T : xT} {N : xT} {Z : Nat} {I : xI} {L : xL} {R : xR} {H : Heap} {locs : List Loc} {ls : Array Slot}  {x0 : Nat} {x1 : Int32} {x2 : Int32} {z0 : Int32} {z1 : Int32} {z2 : Int32} {ro : Int32} (X : Cx D dA s0 p m c cX0_drawn 3 s args RX0 meth) (hr : meth.sig.returnType = (some .int))   (hf : fX0_drawn_b34 T N I R x0 x1 x2 z0 z1 z2 = some ro) (V : Iv D dA s0 s T N Z I L R H locs) (hl : lv_has ls 3 [(0, .ref x0), (1, .int x1), (2, .int x2)]) : W p l e { frames := 1, cells := 0, slots := 0, locals := 22 } s m args below meth c H locs 0 0 (MQ below (xQ D dA s0 (some (.int ro)) T N Z I L R) args s 0 0 (fun q => s0 ≤ q)) (F0 m 34 ls [.int z2, .int z1, .int z0]) := by
  have hx := X.1.1
  have hb := X.1.2.1
  unfold fX0_drawn_b34 at hf
  refine lv_iconst (pc := 34) (v := (ii 1)) hx hb dX0_drawn_34 (by decide) ?_
  refine lv_isub (pc := 35) hx hb dX0_drawn_35 ?_
  replace hf := bs hf; obtain ⟨r1, hk_2, hf⟩ := hf
  refine x_callS0 (pc := 36) (As := [.int z0, .int z1, .int (z2 - (ii 1))]) (rest := []) X V (mX0_in l D dA s0 hk_2) q449 q450 q119 q451 hsX0_in ⟨Nat.le_of_ble_eq_true rfl, Nat.le_of_ble_eq_true rfl⟩ rfl hl.1 rfl (Nat.le_of_ble_eq_true rfl) dX0_drawn_36 ⟨Nat.zero_le _, Nat.zero_le _⟩ (fun H locs V => W.eq (g2 := F0 m 39 ls [.int r1]) rfl ?_)
  refine lv_if_ne (pc := 39) (tgt := 44) hx hb dX0_drawn_39 (by decide) (fun c3 => ?_) (fun c3 => ?_)
  · replace hf := if_f hf c3
    refine lv_iload_n (pc := 44) hx hb dX0_drawn_44 rfl (lv_at hl 2 rfl) ?_
    refine lv_if_ne (pc := 45) (tgt := 60) hx hb dX0_drawn_45 (by decide) (fun c4 => ?_) (fun c4 => ?_)
    · replace hf := if_f hf c4
      refine lv_aload_n (pc := 60) hx hb dX0_drawn_60 rfl (lv_at hl 0 rfl) ?_
      replace hf := tg_s hf; obtain ⟨ht5, hf⟩ := hf
      replace hf := bs hf; obtain ⟨a6, ha6, hf⟩ := hf
      refine x_get (pc := 61) X V okX0 ht5 24 (by decide) q384 (v := va_rf (R x0 24)) rfl dX0_drawn_61 ?_
      refine x_topr ha6 ?_
      replace hf := tg_s hf; obtain ⟨ht7, hf⟩ := hf
      replace hf := bs hf; obtain ⟨a8, ha8, hf⟩ := hf
      refine x_getN (pc := 64) X V okX2 ht7 2 (by decide) q180 (v := va_rf (R a6 2)) rfl dX0_drawn_64 ?_
      refine x_topr ha8 ?_
      refine lv_iload_n (pc := 67) hx hb dX0_drawn_67 rfl (lv_at hl 1 rfl) ?_
      replace hf := rA_s hf; obtain ⟨j9, hjj9, htj9, hij9, hf⟩ := hf
      refine x_iald (pc := 68) X V htj9 hij9 hjj9 dX0_drawn_68 ?_
      cases hf
      exact x_iret (pc := 69) X V hr dX0_drawn_69
    · replace hf := if_t hf c4
      refine lv_aload_n (pc := 48) hx hb dX0_drawn_48 rfl (lv_at hl 0 rfl) ?_
      replace hf := tg_s hf; obtain ⟨ht10, hf⟩ := hf
      replace hf := bs hf; obtain ⟨a11, ha11, hf⟩ := hf
      refine x_get (pc := 49) X V okX0 ht10 24 (by decide) q384 (v := va_rf (R x0 24)) rfl dX0_drawn_49 ?_
      refine x_topr ha11 ?_
      replace hf := tg_s hf; obtain ⟨ht12, hf⟩ := hf
      replace hf := bs hf; obtain ⟨a13, ha13, hf⟩ := hf
      refine x_getN (pc := 52) X V okX2 ht12 0 (by decide) q176 (v := va_rf (R a11 0)) rfl dX0_drawn_52 ?_
      refine x_topr ha13 ?_
      refine lv_iload_n (pc := 55) hx hb dX0_drawn_55 rfl (lv_at hl 1 rfl) ?_
      replace hf := rA_s hf; obtain ⟨j14, hjj14, htj14, hij14, hf⟩ := hf
      refine x_iald (pc := 56) X V htj14 hij14 hjj14 dX0_drawn_56 ?_
      refine lv_goto (pc := 57) (tgt := 69) hx hb dX0_drawn_57 (by decide) ?_
      cases hf
      exact x_iret (pc := 69) X V hr dX0_drawn_69
  · replace hf := if_t hf c3
    refine lv_iconst (pc := 42) (v := (-1 : Int32)) hx hb dX0_drawn_42 (by decide) ?_
    cases hf
    exact x_iret (pc := 43) X V hr dX0_drawn_43
set_option maxHeartbeats 400000 in
set_option maxRecDepth 100000 in
theorem wX0_drawn_e {p : Program} {l : Launch} {e : Env} {s : State} {m : MethodId} {args : Array Value} {below : List Frame} {meth : Method} {c : Code} {D : va_G} {dA : Nat → ClassId} {s0 : Nat} {T : xT} {N : xT} {Z : Nat} {I : xI} {L : xL} {R : xR} {H : Heap} {locs : List Loc} {ls : Array Slot} {x0 : Nat} {x1 : Int32} {x2 : Int32} {ro : Int32} (X : Cx D dA s0 p m c cX0_drawn 3 s args RX0 meth) (hr : meth.sig.returnType = (some .int)) (hf : fX0_drawn T N I R x0 x1 x2 = some ro) (V : Iv D dA s0 s T N Z I L R H locs) (hl : lv_has ls 3 [(0, .ref x0), (1, .int x1), (2, .int x2)]) : W p l e { frames := 1, cells := 0, slots := 0, locals := 22 } s m args below meth c H locs 0 0 (MQ below (xQ D dA s0 (some (.int ro)) T N Z I L R) args s 0 0 (fun q => s0 ≤ q)) (F0 m 0 ls []) := by
  have hx := X.1.1
  have hb := X.1.2.1
  unfold fX0_drawn at hf
  refine lv_aload_n (pc := 0) hx hb dX0_drawn_0 rfl (lv_at hl 0 rfl) ?_
  replace hf := tg_s hf; obtain ⟨ht1, hf⟩ := hf
  refine x_get (pc := 1) X V okX0 ht1 25 (by decide) q385 (v := .int (I x0 25)) rfl dX0_drawn_1 ?_
  refine lv_iconst (pc := 4) (v := (-1 : Int32)) hx hb dX0_drawn_4 (by decide) ?_
  refine lv_icmp_eq (pc := 5) (tgt := 42) hx hb dX0_drawn_5 (by decide) (fun c2 => ?_) (fun c2 => ?_)
  · replace hf := if_t hf c2
    refine lv_iconst (pc := 42) (v := (-1 : Int32)) hx hb dX0_drawn_42 (by decide) ?_
    cases hf
    exact x_iret (pc := 43) X V hr dX0_drawn_43
  · replace hf := if_f hf c2
    refine lv_iload_n (pc := 8) hx hb dX0_drawn_8 rfl (lv_at hl 2 rfl) ?_
    refine lv_iconst (pc := 9) (v := (ii 0)) hx hb dX0_drawn_9 (by decide) ?_
    refine lv_iconst (pc := 10) (v := (ii 1)) hx hb dX0_drawn_10 (by decide) ?_
    replace hf := bs hf; obtain ⟨r3, hk_4, hf⟩ := hf
    refine x_callS0 (pc := 11) (As := [.int x2, .int (ii 0), .int (ii 1)]) (rest := []) X V (mX0_in l D dA s0 hk_4) q449 q450 q119 q451 hsX0_in ⟨Nat.le_of_ble_eq_true rfl, Nat.le_of_ble_eq_true rfl⟩ rfl hl.1 rfl (Nat.le_of_ble_eq_true rfl) dX0_drawn_11 ⟨Nat.zero_le _, Nat.zero_le _⟩ (fun H locs V => W.eq (g2 := F0 m 14 ls [.int r3]) rfl ?_)
    refine lv_if_eq (pc := 14) (tgt := 42) hx hb dX0_drawn_14 (by decide) (fun c5 => ?_) (fun c5 => ?_)
    · replace hf := if_t hf c5
      refine lv_iconst (pc := 42) (v := (-1 : Int32)) hx hb dX0_drawn_42 (by decide) ?_
      cases hf
      exact x_iret (pc := 43) X V hr dX0_drawn_43
    · replace hf := if_f hf c5
      refine lv_iload_n (pc := 17) hx hb dX0_drawn_17 rfl (lv_at hl 1 rfl) ?_
      refine lv_iconst (pc := 18) (v := (ii 0)) hx hb dX0_drawn_18 (by decide) ?_
      refine lv_iload_n (pc := 19) hx hb dX0_drawn_19 rfl (lv_at hl 2 rfl) ?_
      refine lv_if_ne (pc := 20) (tgt := 30) hx hb dX0_drawn_20 (by decide) (fun c6 => ?_) (fun c6 => ?_)
      · replace hf := if_f hf c6
        refine lv_aload_n (pc := 30) hx hb dX0_drawn_30 rfl (lv_at hl 0 rfl) ?_
        refine x_get (pc := 31) X V okX0 ht1 26 (by decide) q386 (v := .int (I x0 26)) rfl dX0_drawn_31 ?_
        exact wX0_drawn_b34 X hr hf V (lv_sub hl [0, 1, 2] rfl)
      · replace hf := if_t hf c6
        refine lv_aload_n (pc := 23) hx hb dX0_drawn_23 rfl (lv_at hl 0 rfl) ?_
        refine x_get (pc := 24) X V okX0 ht1 25 (by decide) q385 (v := .int (I x0 25)) rfl dX0_drawn_24 ?_
        refine lv_goto (pc := 27) (tgt := 34) hx hb dX0_drawn_27 (by decide) ?_
        exact wX0_drawn_b34 X hr hf V (lv_sub hl [0, 1, 2] rfl)
theorem mX0_drawn (l : Launch) (D : va_G) (dA : Nat → ClassId) (s0 : Nat) {T : xT} {N : xT} {Z : Nat} {I : xI} {L : xL} {R : xR} {x0 : Nat} {x1 : Int32} {x2 : Int32} {ro : Int32} (hf : fX0_drawn T N I R x0 x1 x2 = some ro) : XMet l D dA s0 yX0_drawn (ws_ yX0_drawn cX0_drawn 3 ((some .int))) (1) (22) [.ref x0, .int x1, .int x2] T N Z I L R (some (.int ro)) T N Z I L R 0 0 :=
  x_start (own := RX0) rfl (by decide) (Nat.le_of_ble_eq_true rfl) (lv := [(0, .ref x0), (1, .int x1), (2, .int x2)]) rfl (fun p e s m below meth c ls X hr hini V hl => wX0_drawn_e X hr hf V hl)
