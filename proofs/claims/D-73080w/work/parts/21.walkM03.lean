set_option maxHeartbeats 400000 in
set_option maxRecDepth 100000 in
theorem wX5_isDigit_e {p : Program} {l : Launch} {e : Env} {s : State} {m : MethodId} {args : Array Value} {below : List Frame} {meth : Method} {c : Code} {D : va_G} {dA : Nat → ClassId} {s0 : Nat} {T : xT} {N : xT} {Z : Nat} {I : xI} {L : xL} {R : xR} {H : Heap} {locs : List Loc} {ls : Array Slot} {x0 : Int32} {ro : Int32} (X : Cx D dA s0 p m c cX5_isDigit 1 s args RX5 meth) (hr : meth.sig.returnType = (some .boolean)) (hf : fX5_isDigit x0 = some ro) (V : Iv D dA s0 s T N Z I L R H locs) (hl : lv_has ls 1 [(0, .int x0)]) : W p l e { frames := 0, cells := 0, slots := 0, locals := 0 } s m args below meth c H locs 0 0 (MQ below (xQ D dA s0 (some (.int ro)) T N Z I L R) args s 0 0 (fun q => s0 ≤ q)) (F0 m 0 ls []) := by
  have hx := X.1.1
  have hb := X.1.2.1
  unfold fX5_isDigit at hf
  refine lv_iload_n (pc := 0) hx hb dX5_isDigit_0 rfl (lv_at hl 0 rfl) ?_
  refine lv_bipush (pc := 1) (v := (ii 48)) hx hb dX5_isDigit_1 (by decide) ?_
  refine lv_icmp_lt (pc := 3) (tgt := 16) hx hb dX5_isDigit_3 (by decide) (fun c1 => ?_) (fun c1 => ?_)
  · replace hf := if_t hf c1
    refine lv_iconst (pc := 16) (v := (ii 0)) hx hb dX5_isDigit_16 (by decide) ?_
    cases hf
    exact x_zret (pc := 17) X V hr (by decide) dX5_isDigit_17
  · replace hf := if_f hf c1
    refine lv_iload_n (pc := 6) hx hb dX5_isDigit_6 rfl (lv_at hl 0 rfl) ?_
    refine lv_bipush (pc := 7) (v := (ii 57)) hx hb dX5_isDigit_7 (by decide) ?_
    refine lv_icmp_gt (pc := 9) (tgt := 16) hx hb dX5_isDigit_9 (by decide) (fun c2 => ?_) (fun c2 => ?_)
    · replace hf := if_t hf c2
      refine lv_iconst (pc := 16) (v := (ii 0)) hx hb dX5_isDigit_16 (by decide) ?_
      cases hf
      exact x_zret (pc := 17) X V hr (by decide) dX5_isDigit_17
    · replace hf := if_f hf c2
      refine lv_iconst (pc := 12) (v := (ii 1)) hx hb dX5_isDigit_12 (by decide) ?_
      refine lv_goto (pc := 13) (tgt := 17) hx hb dX5_isDigit_13 (by decide) ?_
      cases hf
      exact x_zret (pc := 17) X V hr (by decide) dX5_isDigit_17
theorem mX5_isDigit (l : Launch) (D : va_G) (dA : Nat → ClassId) (s0 : Nat) {T : xT} {N : xT} {Z : Nat} {I : xI} {L : xL} {R : xR} {x0 : Int32} {ro : Int32} (hf : fX5_isDigit x0 = some ro) : XMet l D dA s0 yX5_isDigit (ws_ yX5_isDigit cX5_isDigit 1 ((some .boolean))) (0) (0) [.int x0] T N Z I L R (some (.int ro)) T N Z I L R 0 0 :=
  x_start (own := RX5) rfl (by decide) (Nat.le_of_ble_eq_true rfl) (lv := [(0, .int x0)]) rfl (fun p e s m below meth c ls X hr hini V hl => wX5_isDigit_e X hr hf V hl)
set_option maxHeartbeats 400000 in
set_option maxRecDepth 100000 in
theorem wX5_next_b319 {nf : Nat} {p : Program} {l : Launch} {e : Env} {s : State} {m : MethodId} {args : Array Value} {below : List Frame} {meth : Method} {c : Code} {D : va_G} {dA : Nat → ClassId} {s0 : Nat} {T : xT} {N : xT} {Z : Nat} {I : xI} {L : xL} {R : xR} {H : Heap} {locs : List Loc} {ls : Array Slot} {kk243 : xI → xL → Nat → Option (xI × xL)} {x0 : Nat} {z0 : Nat} {z1 : Int64} {Io : xI} {Lo : xL} (X : Cx D dA s0 p m c cX5_next 1 s args RX5 meth) (hr : meth.sig.returnType = none) (hk243 : ∀ {I : xI} {L : xL} {x0 : Nat} {H : Heap} {locs : List Loc} {ls : Array Slot} , kk243 I L x0 = some (Io, Lo) → Iv D dA s0 s T N Z I L R H locs → lv_has ls 1 [(0, .ref x0)] → W p l e { frames := 1, cells := 0, slots := 0, locals := 20 } s m args below meth c H locs 0 0 (MQ below (xQ D dA s0 none T N Z Io Lo R) args s 0 0 (fun q => s0 ≤ q)) (F0 m 243 ls []))  (hf : fX5_next_b319 nf kk243 T N I L R x0 z0 z1 = some (Io, Lo)) (V : Iv D dA s0 s T N Z I L R H locs) (hl : lv_has ls 1 [(0, .ref x0)]) : W p l e { frames := 1, cells := 0, slots := 0, locals := 20 } s m args below meth c H locs 0 0 (MQ below (xQ D dA s0 none T N Z Io Lo R) args s 0 0 (fun q => s0 ≤ q)) (F0 m 319 ls [.long z1, .ref z0]) := by
  have hx := X.1.1
  have hb := X.1.2.1
  unfold fX5_next_b319 at hf
  replace hf := tg_s hf; obtain ⟨ht1, hf⟩ := hf
  replace hf := nm_s hf; obtain ⟨L2, hL2, hf⟩ := hf
  refine x_putl (pc := 319) X V okX5 (by decide) ht1 17 (by decide) q1538 (Or.inl rfl) hL2 (fun _ _ _ => rfl) rfl rfl dX5_next_319 (fun H locs V => ?_)
  refine lv_aload_n (pc := 322) hx hb dX5_next_322 rfl (lv_at hl 0 rfl) ?_
  refine lv_dup (pc := 323) hx hb dX5_next_323 rfl ?_
  replace hf := tg_s hf; obtain ⟨ht3, hf⟩ := hf
  refine x_get (pc := 324) X V okX5 ht3 15 (by decide) q1536 (v := .int (I x0 15)) rfl dX5_next_324 ?_
  refine lv_iconst (pc := 327) (v := (ii 1)) hx hb dX5_next_327 (by decide) ?_
  refine lv_iadd (pc := 328) hx hb dX5_next_328 ?_
  replace hf := nm_s hf; obtain ⟨I4, hI4, hf⟩ := hf
  refine x_puti (pc := 329) X V okX5 (by decide) ht3 15 (by decide) q1536 (Or.inl rfl) hI4 (fun _ _ _ => rfl) rfl rfl dX5_next_329 (fun H locs V => ?_)
  refine lv_goto (pc := 332) (tgt := 243) hx hb dX5_next_332 (by decide) ?_
  exact hk243 hf V (lv_sub hl [0] rfl)
set_option maxHeartbeats 400000 in
set_option maxRecDepth 100000 in
theorem wX5_next_b243 {nf : Nat} {p : Program} {l : Launch} {e : Env} {s : State} {m : MethodId} {args : Array Value} {below : List Frame} {meth : Method} {c : Code} {D : va_G} {dA : Nat → ClassId} {s0 : Nat} {T : xT} {N : xT} {Z : Nat} {R : xR}  {Io : xI} {Lo : xL} (X : Cx D dA s0 p m c cX5_next 1 s args RX5 meth) (hr : meth.sig.returnType = none)   (k : Nat) : ∀ {I : xI} {L : xL} {x0 : Nat} {H : Heap} {locs : List Loc} {ls : Array Slot} , fX5_next_b243 nf T N R k I L x0 = some (Io, Lo) → Iv D dA s0 s T N Z I L R H locs → lv_has ls 1 [(0, .ref x0)] → W p l e { frames := 1, cells := 0, slots := 0, locals := 20 } s m args below meth c H locs 0 0 (MQ below (xQ D dA s0 none T N Z Io Lo R) args s 0 0 (fun q => s0 ≤ q)) (F0 m 243 ls []) := by
  have hx := X.1.1
  have hb := X.1.2.1
  induction k with
  | zero =>
    intro I L x0 H locs ls hf V hl
    exact absurd (show none = some _ from hf) (fun q => nomatch q)
  | succ k ih =>
    intro I L x0 H locs ls hf V hl
    rw [fX5_next_b243] at hf
    refine lv_aload_n (pc := 243) hx hb dX5_next_243 rfl (lv_at hl 0 rfl) ?_
    replace hf := tg_s hf; obtain ⟨ht1, hf⟩ := hf
    refine x_get (pc := 244) X V okX5 ht1 16 (by decide) q1537 (v := .int (I x0 16)) rfl dX5_next_244 ?_
    refine lv_iconst (pc := 247) (v := (ii 2)) hx hb dX5_next_247 (by decide) ?_
    refine lv_icmp_ne (pc := 248) (tgt := 335) hx hb dX5_next_248 (by decide) (fun c2 => ?_) (fun c2 => ?_)
    · replace hf := if_f hf c2
      cases hf
      exact x_vret (pc := 335) X V hr dX5_next_335
    · replace hf := if_t hf c2
      refine lv_aload_n (pc := 251) hx hb dX5_next_251 rfl (lv_at hl 0 rfl) ?_
      refine x_get (pc := 252) X V okX5 ht1 15 (by decide) q1536 (v := .int (I x0 15)) rfl dX5_next_252 ?_
      refine lv_aload_n (pc := 255) hx hb dX5_next_255 rfl (lv_at hl 0 rfl) ?_
      refine x_get (pc := 256) X V okX5 ht1 13 (by decide) q1534 (v := .int (I x0 13)) rfl dX5_next_256 ?_
      refine lv_icmp_ge (pc := 259) (tgt := 335) hx hb dX5_next_259 (by decide) (fun c3 => ?_) (fun c3 => ?_)
      · replace hf := if_t hf c3
        cases hf
        exact x_vret (pc := 335) X V hr dX5_next_335
      · replace hf := if_f hf c3
        refine lv_aload_n (pc := 262) hx hb dX5_next_262 rfl (lv_at hl 0 rfl) ?_
        replace hf := bs hf; obtain ⟨a4, ha4, hf⟩ := hf
        refine x_get (pc := 263) X V okX5 ht1 12 (by decide) q1533 (v := va_rf (R x0 12)) rfl dX5_next_263 ?_
        refine x_topr ha4 ?_
        refine lv_aload_n (pc := 266) hx hb dX5_next_266 rfl (lv_at hl 0 rfl) ?_
        refine x_get (pc := 267) X V okX5 ht1 15 (by decide) q1536 (v := .int (I x0 15)) rfl dX5_next_267 ?_
        replace hf := rA_s hf; obtain ⟨j5, hjj5, htj5, hij5, hf⟩ := hf
        refine x_iald (pc := 270) X V htj5 hij5 hjj5 dX5_next_270 ?_
        replace hf := bs hf; obtain ⟨r6, hk_7, hf⟩ := hf
        refine x_callS0 (pc := 271) (As := [.int (I a4 j5)]) (rest := []) X V (mX5_isDigit l D dA s0 hk_7) q1861 q1862 q129 q1863 hsX5_isDigit ⟨Nat.le_of_ble_eq_true rfl, Nat.le_of_ble_eq_true rfl⟩ rfl hl.1 rfl (Nat.le_of_ble_eq_true rfl) dX5_next_271 ⟨Nat.zero_le _, Nat.zero_le _⟩ (fun H locs V => W.eq (g2 := F0 m 274 ls [.int r6]) rfl ?_)
        refine lv_if_eq (pc := 274) (tgt := 335) hx hb dX5_next_274 (by decide) (fun c8 => ?_) (fun c8 => ?_)
        · replace hf := if_t hf c8
          cases hf
          exact x_vret (pc := 335) X V hr dX5_next_335
        · replace hf := if_f hf c8
          refine lv_aload_n (pc := 277) hx hb dX5_next_277 rfl (lv_at hl 0 rfl) ?_
          refine lv_aload_n (pc := 278) hx hb dX5_next_278 rfl (lv_at hl 0 rfl) ?_
          refine x_get (pc := 279) X V okX5 ht1 17 (by decide) q1538 (v := .long (L x0 17)) rfl dX5_next_279 ?_
          refine lv_ldc2 (pc := 282) (v := (jj 1000000)) hx hb X.1.2.2.2.1 (X.1.2.2.2.2 _ q1866) dX5_next_282 ?_
          refine lc_le (pc := 285) (tgt := 296) hx hb dX5_next_285 dX5_next_286 (by decide) (fun c9 => ?_) (fun c9 => ?_)
          · replace hf := if_t hf c9
            refine lv_aload_n (pc := 296) hx hb dX5_next_296 rfl (lv_at hl 0 rfl) ?_
            refine x_get (pc := 297) X V okX5 ht1 17 (by decide) q1538 (v := .long (L x0 17)) rfl dX5_next_297 ?_
            refine lv_ldc2 (pc := 300) (v := (jj 10)) hx hb X.1.2.2.2.1 (X.1.2.2.2.2 _ q1813) dX5_next_300 ?_
            refine lv_lmul (pc := 303) hx hb dX5_next_303 ?_
            refine lv_aload_n (pc := 304) hx hb dX5_next_304 rfl (lv_at hl 0 rfl) ?_
            refine x_get (pc := 305) X V okX5 ht1 12 (by decide) q1533 (v := va_rf (R x0 12)) rfl dX5_next_305 ?_
            refine x_topr ha4 ?_
            refine lv_aload_n (pc := 308) hx hb dX5_next_308 rfl (lv_at hl 0 rfl) ?_
            refine x_get (pc := 309) X V okX5 ht1 15 (by decide) q1536 (v := .int (I x0 15)) rfl dX5_next_309 ?_
            refine x_iald (pc := 312) X V htj5 hij5 hjj5 dX5_next_312 ?_
            refine lv_i2l (pc := 313) hx hb dX5_next_313 rfl ?_
            refine lv_ladd (pc := 314) hx hb dX5_next_314 ?_
            refine lv_ldc2 (pc := 315) (v := (jj 48)) hx hb X.1.2.2.2.1 (X.1.2.2.2.2 _ q1867) dX5_next_315 ?_
            refine lv_lsub (pc := 318) hx hb dX5_next_318 ?_
            exact wX5_next_b319 X hr ih hf V (lv_sub hl [0] rfl)
          · replace hf := if_f hf c9
            refine lv_aload_n (pc := 289) hx hb dX5_next_289 rfl (lv_at hl 0 rfl) ?_
            refine x_get (pc := 290) X V okX5 ht1 17 (by decide) q1538 (v := .long (L x0 17)) rfl dX5_next_290 ?_
            refine lv_goto (pc := 293) (tgt := 319) hx hb dX5_next_293 (by decide) ?_
            exact wX5_next_b319 X hr ih hf V (lv_sub hl [0] rfl)
set_option maxHeartbeats 400000 in
set_option maxRecDepth 100000 in
theorem wX5_next_b227 {nf : Nat} {p : Program} {l : Launch} {e : Env} {s : State} {m : MethodId} {args : Array Value} {below : List Frame} {meth : Method} {c : Code} {D : va_G} {dA : Nat → ClassId} {s0 : Nat} {T : xT} {N : xT} {Z : Nat} {I : xI} {L : xL} {R : xR} {H : Heap} {locs : List Loc} {ls : Array Slot} {kk149 : xI → xL → Nat → Option (xI × xL)} {x0 : Nat} {z0 : Nat} {z1 : Int64} {Io : xI} {Lo : xL} (X : Cx D dA s0 p m c cX5_next 1 s args RX5 meth) (hr : meth.sig.returnType = none) (hk149 : ∀ {I : xI} {L : xL} {x0 : Nat} {H : Heap} {locs : List Loc} {ls : Array Slot} , kk149 I L x0 = some (Io, Lo) → Iv D dA s0 s T N Z I L R H locs → lv_has ls 1 [(0, .ref x0)] → W p l e { frames := 1, cells := 0, slots := 0, locals := 20 } s m args below meth c H locs 0 0 (MQ below (xQ D dA s0 none T N Z Io Lo R) args s 0 0 (fun q => s0 ≤ q)) (F0 m 149 ls []))  (hf : fX5_next_b227 nf kk149 T N I L R x0 z0 z1 = some (Io, Lo)) (V : Iv D dA s0 s T N Z I L R H locs) (hl : lv_has ls 1 [(0, .ref x0)]) : W p l e { frames := 1, cells := 0, slots := 0, locals := 20 } s m args below meth c H locs 0 0 (MQ below (xQ D dA s0 none T N Z Io Lo R) args s 0 0 (fun q => s0 ≤ q)) (F0 m 227 ls [.long z1, .ref z0]) := by
  have hx := X.1.1
  have hb := X.1.2.1
  unfold fX5_next_b227 at hf
  replace hf := tg_s hf; obtain ⟨ht1, hf⟩ := hf
  replace hf := nm_s hf; obtain ⟨L2, hL2, hf⟩ := hf
  refine x_putl (pc := 227) X V okX5 (by decide) ht1 17 (by decide) q1538 (Or.inl rfl) hL2 (fun _ _ _ => rfl) rfl rfl dX5_next_227 (fun H locs V => ?_)
  refine lv_aload_n (pc := 230) hx hb dX5_next_230 rfl (lv_at hl 0 rfl) ?_
  refine lv_dup (pc := 231) hx hb dX5_next_231 rfl ?_
  replace hf := tg_s hf; obtain ⟨ht3, hf⟩ := hf
  refine x_get (pc := 232) X V okX5 ht3 15 (by decide) q1536 (v := .int (I x0 15)) rfl dX5_next_232 ?_
  refine lv_iconst (pc := 235) (v := (ii 1)) hx hb dX5_next_235 (by decide) ?_
  refine lv_iadd (pc := 236) hx hb dX5_next_236 ?_
  replace hf := nm_s hf; obtain ⟨I4, hI4, hf⟩ := hf
  refine x_puti (pc := 237) X V okX5 (by decide) ht3 15 (by decide) q1536 (Or.inl rfl) hI4 (fun _ _ _ => rfl) rfl rfl dX5_next_237 (fun H locs V => ?_)
  refine lv_goto (pc := 240) (tgt := 149) hx hb dX5_next_240 (by decide) ?_
  exact hk149 hf V (lv_sub hl [0] rfl)
set_option maxHeartbeats 400000 in
set_option maxRecDepth 100000 in
theorem wX5_next_b149 {nf : Nat} {p : Program} {l : Launch} {e : Env} {s : State} {m : MethodId} {args : Array Value} {below : List Frame} {meth : Method} {c : Code} {D : va_G} {dA : Nat → ClassId} {s0 : Nat} {T : xT} {N : xT} {Z : Nat} {R : xR}  {Io : xI} {Lo : xL} (X : Cx D dA s0 p m c cX5_next 1 s args RX5 meth) (hr : meth.sig.returnType = none)   (k : Nat) : ∀ {I : xI} {L : xL} {x0 : Nat} {H : Heap} {locs : List Loc} {ls : Array Slot} , fX5_next_b149 nf T N R k I L x0 = some (Io, Lo) → Iv D dA s0 s T N Z I L R H locs → lv_has ls 1 [(0, .ref x0)] → W p l e { frames := 1, cells := 0, slots := 0, locals := 20 } s m args below meth c H locs 0 0 (MQ below (xQ D dA s0 none T N Z Io Lo R) args s 0 0 (fun q => s0 ≤ q)) (F0 m 149 ls []) := by
  have hx := X.1.1
  have hb := X.1.2.1
  induction k with
  | zero =>
    intro I L x0 H locs ls hf V hl
    exact absurd (show none = some _ from hf) (fun q => nomatch q)
  | succ k ih =>
    intro I L x0 H locs ls hf V hl
    rw [fX5_next_b149] at hf
    refine lv_aload_n (pc := 149) hx hb dX5_next_149 rfl (lv_at hl 0 rfl) ?_
    replace hf := tg_s hf; obtain ⟨ht1, hf⟩ := hf
    refine x_get (pc := 150) X V okX5 ht1 16 (by decide) q1537 (v := .int (I x0 16)) rfl dX5_next_150 ?_
    refine lv_iconst (pc := 153) (v := (ii 1)) hx hb dX5_next_153 (by decide) ?_
    refine lv_icmp_ne (pc := 154) (tgt := 243) hx hb dX5_next_154 (by decide) (fun c2 => ?_) (fun c2 => ?_)
    · replace hf := if_f hf c2
      exact wX5_next_b243 X hr nf hf V (lv_sub hl [0] rfl)
    · replace hf := if_t hf c2
      refine lv_aload_n (pc := 157) hx hb dX5_next_157 rfl (lv_at hl 0 rfl) ?_
      refine x_get (pc := 158) X V okX5 ht1 15 (by decide) q1536 (v := .int (I x0 15)) rfl dX5_next_158 ?_
      refine lv_aload_n (pc := 161) hx hb dX5_next_161 rfl (lv_at hl 0 rfl) ?_
      refine x_get (pc := 162) X V okX5 ht1 13 (by decide) q1534 (v := .int (I x0 13)) rfl dX5_next_162 ?_
      refine lv_icmp_ge (pc := 165) (tgt := 243) hx hb dX5_next_165 (by decide) (fun c3 => ?_) (fun c3 => ?_)
      · replace hf := if_t hf c3
        exact wX5_next_b243 X hr nf hf V (lv_sub hl [0] rfl)
      · replace hf := if_f hf c3
        refine lv_aload_n (pc := 168) hx hb dX5_next_168 rfl (lv_at hl 0 rfl) ?_
        replace hf := bs hf; obtain ⟨a4, ha4, hf⟩ := hf
        refine x_get (pc := 169) X V okX5 ht1 12 (by decide) q1533 (v := va_rf (R x0 12)) rfl dX5_next_169 ?_
        refine x_topr ha4 ?_
        refine lv_aload_n (pc := 172) hx hb dX5_next_172 rfl (lv_at hl 0 rfl) ?_
        refine x_get (pc := 173) X V okX5 ht1 15 (by decide) q1536 (v := .int (I x0 15)) rfl dX5_next_173 ?_
        replace hf := rA_s hf; obtain ⟨j5, hjj5, htj5, hij5, hf⟩ := hf
        refine x_iald (pc := 176) X V htj5 hij5 hjj5 dX5_next_176 ?_
        replace hf := bs hf; obtain ⟨r6, hk_7, hf⟩ := hf
        refine x_callS0 (pc := 177) (As := [.int (I a4 j5)]) (rest := []) X V (mX5_isSmall l D dA s0 hk_7) q1858 q1859 q129 q1860 hsX5_isSmall ⟨Nat.le_of_ble_eq_true rfl, Nat.le_of_ble_eq_true rfl⟩ rfl hl.1 rfl (Nat.le_of_ble_eq_true rfl) dX5_next_177 ⟨Nat.zero_le _, Nat.zero_le _⟩ (fun H locs V => W.eq (g2 := F0 m 180 ls [.int r6]) rfl ?_)
        refine lv_if_eq (pc := 180) (tgt := 243) hx hb dX5_next_180 (by decide) (fun c8 => ?_) (fun c8 => ?_)
        · replace hf := if_t hf c8
          exact wX5_next_b243 X hr nf hf V (lv_sub hl [0] rfl)
        · replace hf := if_f hf c8
          refine lv_aload_n (pc := 183) hx hb dX5_next_183 rfl (lv_at hl 0 rfl) ?_
          refine lv_aload_n (pc := 184) hx hb dX5_next_184 rfl (lv_at hl 0 rfl) ?_
          refine x_get (pc := 185) X V okX5 ht1 15 (by decide) q1536 (v := .int (I x0 15)) rfl dX5_next_185 ?_
          refine lv_aload_n (pc := 188) hx hb dX5_next_188 rfl (lv_at hl 0 rfl) ?_
          refine x_get (pc := 189) X V okX5 ht1 14 (by decide) q1535 (v := .int (I x0 14)) rfl dX5_next_189 ?_
          refine lv_isub (pc := 192) hx hb dX5_next_192 ?_
          refine lv_bipush (pc := 193) (v := (ii 10)) hx hb dX5_next_193 (by decide) ?_
          refine lv_icmp_ge (pc := 195) (tgt := 224) hx hb dX5_next_195 (by decide) (fun c9 => ?_) (fun c9 => ?_)
          · replace hf := if_t hf c9
            refine lv_ldc2 (pc := 224) (v := (-1 : Int64)) hx hb X.1.2.2.2.1 (X.1.2.2.2.2 _ q1766) dX5_next_224 ?_
            exact wX5_next_b227 X hr ih hf V (lv_sub hl [0] rfl)
          · replace hf := if_f hf c9
            refine lv_aload_n (pc := 198) hx hb dX5_next_198 rfl (lv_at hl 0 rfl) ?_
            refine x_get (pc := 199) X V okX5 ht1 17 (by decide) q1538 (v := .long (L x0 17)) rfl dX5_next_199 ?_
            refine lv_ldc2 (pc := 202) (v := (jj 32)) hx hb X.1.2.2.2.1 (X.1.2.2.2.2 _ q1864) dX5_next_202 ?_
            refine lv_lmul (pc := 205) hx hb dX5_next_205 ?_
            refine lv_aload_n (pc := 206) hx hb dX5_next_206 rfl (lv_at hl 0 rfl) ?_
            refine x_get (pc := 207) X V okX5 ht1 12 (by decide) q1533 (v := va_rf (R x0 12)) rfl dX5_next_207 ?_
            refine x_topr ha4 ?_
            refine lv_aload_n (pc := 210) hx hb dX5_next_210 rfl (lv_at hl 0 rfl) ?_
            refine x_get (pc := 211) X V okX5 ht1 15 (by decide) q1536 (v := .int (I x0 15)) rfl dX5_next_211 ?_
            refine x_iald (pc := 214) X V htj5 hij5 hjj5 dX5_next_214 ?_
            refine lv_i2l (pc := 215) hx hb dX5_next_215 rfl ?_
            refine lv_ladd (pc := 216) hx hb dX5_next_216 ?_
            refine lv_ldc2 (pc := 217) (v := (jj 96)) hx hb X.1.2.2.2.1 (X.1.2.2.2.2 _ q1865) dX5_next_217 ?_
            refine lv_lsub (pc := 220) hx hb dX5_next_220 ?_
            refine lv_goto (pc := 221) (tgt := 227) hx hb dX5_next_221 (by decide) ?_
            exact wX5_next_b227 X hr ih hf V (lv_sub hl [0] rfl)
set_option maxHeartbeats 400000 in
set_option maxRecDepth 100000 in
theorem wX5_next_b114 {nf : Nat} {p : Program} {l : Launch} {e : Env} {s : State} {m : MethodId} {args : Array Value} {below : List Frame} {meth : Method} {c : Code} {D : va_G} {dA : Nat → ClassId} {s0 : Nat} {T : xT} {N : xT} {Z : Nat} {I : xI} {L : xL} {R : xR} {H : Heap} {locs : List Loc} {ls : Array Slot}  {x0 : Nat} {z0 : Nat} {z1 : Int32} {Io : xI} {Lo : xL} (X : Cx D dA s0 p m c cX5_next 1 s args RX5 meth) (hr : meth.sig.returnType = none)   (hf : fX5_next_b114 nf T N I L R x0 z0 z1 = some (Io, Lo)) (V : Iv D dA s0 s T N Z I L R H locs) (hl : lv_has ls 1 [(0, .ref x0)]) : W p l e { frames := 1, cells := 0, slots := 0, locals := 20 } s m args below meth c H locs 0 0 (MQ below (xQ D dA s0 none T N Z Io Lo R) args s 0 0 (fun q => s0 ≤ q)) (F0 m 114 ls [.int z1, .ref z0]) := by
  have hx := X.1.1
  have hb := X.1.2.1
  unfold fX5_next_b114 at hf
  replace hf := tg_s hf; obtain ⟨ht1, hf⟩ := hf
  replace hf := nm_s hf; obtain ⟨I2, hI2, hf⟩ := hf
  refine x_puti (pc := 114) X V okX5 (by decide) ht1 16 (by decide) q1537 (Or.inl rfl) hI2 (fun _ _ _ => rfl) rfl rfl dX5_next_114 (fun H locs V => ?_)
  refine lv_aload_n (pc := 117) hx hb dX5_next_117 rfl (lv_at hl 0 rfl) ?_
  replace hf := tg_s hf; obtain ⟨ht3, hf⟩ := hf
  refine x_get (pc := 118) X V okX5 ht3 16 (by decide) q1537 (v := .int (I2 x0 16)) rfl dX5_next_118 ?_
  refine lv_iconst (pc := 121) (v := (ii 3)) hx hb dX5_next_121 (by decide) ?_
  refine lv_icmp_ne (pc := 122) (tgt := 149) hx hb dX5_next_122 (by decide) (fun c4 => ?_) (fun c4 => ?_)
  · replace hf := if_f hf c4
    exact wX5_next_b149 X hr nf hf V (lv_sub hl [0] rfl)
  · replace hf := if_t hf c4
    refine lv_aload_n (pc := 125) hx hb dX5_next_125 rfl (lv_at hl 0 rfl) ?_
    refine lv_aload_n (pc := 126) hx hb dX5_next_126 rfl (lv_at hl 0 rfl) ?_
    replace hf := bs hf; obtain ⟨a5, ha5, hf⟩ := hf
    refine x_get (pc := 127) X V okX5 ht3 12 (by decide) q1533 (v := va_rf (R x0 12)) rfl dX5_next_127 ?_
    refine x_topr ha5 ?_
    refine lv_aload_n (pc := 130) hx hb dX5_next_130 rfl (lv_at hl 0 rfl) ?_
    refine x_get (pc := 131) X V okX5 ht3 14 (by decide) q1535 (v := .int (I2 x0 14)) rfl dX5_next_131 ?_
    replace hf := rA_s hf; obtain ⟨j6, hjj6, htj6, hij6, hf⟩ := hf
    refine x_iald (pc := 134) X V htj6 hij6 hjj6 dX5_next_134 ?_
    refine lv_i2l (pc := 135) hx hb dX5_next_135 rfl ?_
    replace hf := nm_s hf; obtain ⟨L7, hL7, hf⟩ := hf
    refine x_putl (pc := 136) X V okX5 (by decide) ht3 17 (by decide) q1538 (Or.inl rfl) hL7 (fun _ _ _ => rfl) rfl rfl dX5_next_136 (fun H locs V => ?_)
    refine lv_aload_n (pc := 139) hx hb dX5_next_139 rfl (lv_at hl 0 rfl) ?_
    refine lv_dup (pc := 140) hx hb dX5_next_140 rfl ?_
    refine x_get (pc := 141) X V okX5 ht3 15 (by decide) q1536 (v := .int (I2 x0 15)) rfl dX5_next_141 ?_
    refine lv_iconst (pc := 144) (v := (ii 1)) hx hb dX5_next_144 (by decide) ?_
    refine lv_iadd (pc := 145) hx hb dX5_next_145 ?_
    replace hf := nm_s hf; obtain ⟨I8, hI8, hf⟩ := hf
    refine x_puti (pc := 146) X V okX5 (by decide) ht3 15 (by decide) q1536 (Or.inl rfl) hI8 (fun _ _ _ => rfl) rfl rfl dX5_next_146 (fun H locs V => ?_)
    exact wX5_next_b149 X hr nf hf V (lv_sub hl [0] rfl)
set_option maxHeartbeats 400000 in
set_option maxRecDepth 100000 in
theorem wX5_next_b46 {nf : Nat} {p : Program} {l : Launch} {e : Env} {s : State} {m : MethodId} {args : Array Value} {below : List Frame} {meth : Method} {c : Code} {D : va_G} {dA : Nat → ClassId} {s0 : Nat} {T : xT} {N : xT} {Z : Nat} {I : xI} {L : xL} {R : xR} {H : Heap} {locs : List Loc} {ls : Array Slot}  {x0 : Nat} {Io : xI} {Lo : xL} (X : Cx D dA s0 p m c cX5_next 1 s args RX5 meth) (hr : meth.sig.returnType = none)   (hf : fX5_next_b46 nf T N I L R x0 = some (Io, Lo)) (V : Iv D dA s0 s T N Z I L R H locs) (hl : lv_has ls 1 [(0, .ref x0)]) : W p l e { frames := 1, cells := 0, slots := 0, locals := 20 } s m args below meth c H locs 0 0 (MQ below (xQ D dA s0 none T N Z Io Lo R) args s 0 0 (fun q => s0 ≤ q)) (F0 m 46 ls []) := by
  have hx := X.1.1
  have hb := X.1.2.1
  unfold fX5_next_b46 at hf
  refine lv_aload_n (pc := 46) hx hb dX5_next_46 rfl (lv_at hl 0 rfl) ?_
  refine lv_aload_n (pc := 47) hx hb dX5_next_47 rfl (lv_at hl 0 rfl) ?_
  replace hf := tg_s hf; obtain ⟨ht1, hf⟩ := hf
  refine x_get (pc := 48) X V okX5 ht1 14 (by decide) q1535 (v := .int (I x0 14)) rfl dX5_next_48 ?_
  replace hf := nm_s hf; obtain ⟨I2, hI2, hf⟩ := hf
  refine x_puti (pc := 51) X V okX5 (by decide) ht1 15 (by decide) q1536 (Or.inl rfl) hI2 (fun _ _ _ => rfl) rfl rfl dX5_next_51 (fun H locs V => ?_)
  refine lv_aload_n (pc := 54) hx hb dX5_next_54 rfl (lv_at hl 0 rfl) ?_
  refine lv_lconst (pc := 55) (v := (jj 0)) hx hb dX5_next_55 (by decide) ?_
  replace hf := nm_s hf; obtain ⟨L3, hL3, hf⟩ := hf
  refine x_putl (pc := 56) X V okX5 (by decide) ht1 17 (by decide) q1538 (Or.inl rfl) hL3 (fun _ _ _ => rfl) rfl rfl dX5_next_56 (fun H locs V => ?_)
  refine lv_aload_n (pc := 59) hx hb dX5_next_59 rfl (lv_at hl 0 rfl) ?_
  refine lv_aload_n (pc := 60) hx hb dX5_next_60 rfl (lv_at hl 0 rfl) ?_
  refine x_get (pc := 61) X V okX5 ht1 14 (by decide) q1535 (v := .int (I2 x0 14)) rfl dX5_next_61 ?_
  refine lv_aload_n (pc := 64) hx hb dX5_next_64 rfl (lv_at hl 0 rfl) ?_
  refine x_get (pc := 65) X V okX5 ht1 13 (by decide) q1534 (v := .int (I2 x0 13)) rfl dX5_next_65 ?_
  refine lv_icmp_ne (pc := 68) (tgt := 75) hx hb dX5_next_68 (by decide) (fun c4 => ?_) (fun c4 => ?_)
  · replace hf := if_f hf c4
    refine lv_aload_n (pc := 75) hx hb dX5_next_75 rfl (lv_at hl 0 rfl) ?_
    replace hf := bs hf; obtain ⟨a5, ha5, hf⟩ := hf
    refine x_get (pc := 76) X V okX5 ht1 12 (by decide) q1533 (v := va_rf (R x0 12)) rfl dX5_next_76 ?_
    refine x_topr ha5 ?_
    refine lv_aload_n (pc := 79) hx hb dX5_next_79 rfl (lv_at hl 0 rfl) ?_
    refine x_get (pc := 80) X V okX5 ht1 14 (by decide) q1535 (v := .int (I2 x0 14)) rfl dX5_next_80 ?_
    replace hf := rA_s hf; obtain ⟨j6, hjj6, htj6, hij6, hf⟩ := hf
    refine x_iald (pc := 83) X V htj6 hij6 hjj6 dX5_next_83 ?_
    replace hf := bs hf; obtain ⟨r7, hk_8, hf⟩ := hf
    refine x_callS0 (pc := 84) (As := [.int (I2 a5 j6)]) (rest := [.ref x0]) X V (mX5_isSmall l D dA s0 hk_8) q1858 q1859 q129 q1860 hsX5_isSmall ⟨Nat.le_of_ble_eq_true rfl, Nat.le_of_ble_eq_true rfl⟩ rfl hl.1 rfl (Nat.le_of_ble_eq_true rfl) dX5_next_84 ⟨Nat.zero_le _, Nat.zero_le _⟩ (fun H locs V => W.eq (g2 := F0 m 87 ls [.int r7, .ref x0]) rfl ?_)
    refine lv_if_eq (pc := 87) (tgt := 94) hx hb dX5_next_87 (by decide) (fun c9 => ?_) (fun c9 => ?_)
    · replace hf := if_t hf c9
      refine lv_aload_n (pc := 94) hx hb dX5_next_94 rfl (lv_at hl 0 rfl) ?_
      refine x_get (pc := 95) X V okX5 ht1 12 (by decide) q1533 (v := va_rf (R x0 12)) rfl dX5_next_95 ?_
      refine x_topr ha5 ?_
      refine lv_aload_n (pc := 98) hx hb dX5_next_98 rfl (lv_at hl 0 rfl) ?_
      refine x_get (pc := 99) X V okX5 ht1 14 (by decide) q1535 (v := .int (I2 x0 14)) rfl dX5_next_99 ?_
      refine x_iald (pc := 102) X V htj6 hij6 hjj6 dX5_next_102 ?_
      replace hf := bs hf; obtain ⟨r10, hk_11, hf⟩ := hf
      refine x_callS0 (pc := 103) (As := [.int (I2 a5 j6)]) (rest := [.ref x0]) X V (mX5_isDigit l D dA s0 hk_11) q1861 q1862 q129 q1863 hsX5_isDigit ⟨Nat.le_of_ble_eq_true rfl, Nat.le_of_ble_eq_true rfl⟩ rfl hl.1 rfl (Nat.le_of_ble_eq_true rfl) dX5_next_103 ⟨Nat.zero_le _, Nat.zero_le _⟩ (fun H locs V => W.eq (g2 := F0 m 106 ls [.int r10, .ref x0]) rfl ?_)
      refine lv_if_eq (pc := 106) (tgt := 113) hx hb dX5_next_106 (by decide) (fun c12 => ?_) (fun c12 => ?_)
      · replace hf := if_t hf c12
        refine lv_iconst (pc := 113) (v := (ii 3)) hx hb dX5_next_113 (by decide) ?_
        exact wX5_next_b114 X hr hf V (lv_sub hl [0] rfl)
      · replace hf := if_f hf c12
        refine lv_iconst (pc := 109) (v := (ii 2)) hx hb dX5_next_109 (by decide) ?_
        refine lv_goto (pc := 110) (tgt := 114) hx hb dX5_next_110 (by decide) ?_
        exact wX5_next_b114 X hr hf V (lv_sub hl [0] rfl)
    · replace hf := if_f hf c9
      refine lv_iconst (pc := 90) (v := (ii 1)) hx hb dX5_next_90 (by decide) ?_
      refine lv_goto (pc := 91) (tgt := 114) hx hb dX5_next_91 (by decide) ?_
      exact wX5_next_b114 X hr hf V (lv_sub hl [0] rfl)
  · replace hf := if_t hf c4
    refine lv_iconst (pc := 71) (v := (ii 0)) hx hb dX5_next_71 (by decide) ?_
    refine lv_goto (pc := 72) (tgt := 114) hx hb dX5_next_72 (by decide) ?_
    exact wX5_next_b114 X hr hf V (lv_sub hl [0] rfl)
set_option maxHeartbeats 400000 in
set_option maxRecDepth 100000 in
theorem wX5_next_b8 {nf : Nat} {p : Program} {l : Launch} {e : Env} {s : State} {m : MethodId} {args : Array Value} {below : List Frame} {meth : Method} {c : Code} {D : va_G} {dA : Nat → ClassId} {s0 : Nat} {T : xT} {N : xT} {Z : Nat} {R : xR}  {Io : xI} {Lo : xL} (X : Cx D dA s0 p m c cX5_next 1 s args RX5 meth) (hr : meth.sig.returnType = none)   (k : Nat) : ∀ {I : xI} {L : xL} {x0 : Nat} {H : Heap} {locs : List Loc} {ls : Array Slot} , fX5_next_b8 nf T N R k I L x0 = some (Io, Lo) → Iv D dA s0 s T N Z I L R H locs → lv_has ls 1 [(0, .ref x0)] → W p l e { frames := 1, cells := 0, slots := 0, locals := 20 } s m args below meth c H locs 0 0 (MQ below (xQ D dA s0 none T N Z Io Lo R) args s 0 0 (fun q => s0 ≤ q)) (F0 m 8 ls []) := by
  have hx := X.1.1
  have hb := X.1.2.1
  induction k with
  | zero =>
    intro I L x0 H locs ls hf V hl
    exact absurd (show none = some _ from hf) (fun q => nomatch q)
  | succ k ih =>
    intro I L x0 H locs ls hf V hl
    rw [fX5_next_b8] at hf
    refine lv_aload_n (pc := 8) hx hb dX5_next_8 rfl (lv_at hl 0 rfl) ?_
    replace hf := tg_s hf; obtain ⟨ht1, hf⟩ := hf
    refine x_get (pc := 9) X V okX5 ht1 14 (by decide) q1535 (v := .int (I x0 14)) rfl dX5_next_9 ?_
    refine lv_aload_n (pc := 12) hx hb dX5_next_12 rfl (lv_at hl 0 rfl) ?_
    refine x_get (pc := 13) X V okX5 ht1 13 (by decide) q1534 (v := .int (I x0 13)) rfl dX5_next_13 ?_
    refine lv_icmp_ge (pc := 16) (tgt := 46) hx hb dX5_next_16 (by decide) (fun c2 => ?_) (fun c2 => ?_)
    · replace hf := if_t hf c2
      exact wX5_next_b46 X hr hf V (lv_sub hl [0] rfl)
    · replace hf := if_f hf c2
      refine lv_aload_n (pc := 19) hx hb dX5_next_19 rfl (lv_at hl 0 rfl) ?_
      replace hf := bs hf; obtain ⟨a3, ha3, hf⟩ := hf
      refine x_get (pc := 20) X V okX5 ht1 12 (by decide) q1533 (v := va_rf (R x0 12)) rfl dX5_next_20 ?_
      refine x_topr ha3 ?_
      refine lv_aload_n (pc := 23) hx hb dX5_next_23 rfl (lv_at hl 0 rfl) ?_
      refine x_get (pc := 24) X V okX5 ht1 14 (by decide) q1535 (v := .int (I x0 14)) rfl dX5_next_24 ?_
      replace hf := rA_s hf; obtain ⟨j4, hjj4, htj4, hij4, hf⟩ := hf
      refine x_iald (pc := 27) X V htj4 hij4 hjj4 dX5_next_27 ?_
      refine lv_bipush (pc := 28) (v := (ii 32)) hx hb dX5_next_28 (by decide) ?_
      refine lv_icmp_ne (pc := 30) (tgt := 46) hx hb dX5_next_30 (by decide) (fun c5 => ?_) (fun c5 => ?_)
      · replace hf := if_f hf c5
        exact wX5_next_b46 X hr hf V (lv_sub hl [0] rfl)
      · replace hf := if_t hf c5
        refine lv_aload_n (pc := 33) hx hb dX5_next_33 rfl (lv_at hl 0 rfl) ?_
        refine lv_dup (pc := 34) hx hb dX5_next_34 rfl ?_
        refine x_get (pc := 35) X V okX5 ht1 14 (by decide) q1535 (v := .int (I x0 14)) rfl dX5_next_35 ?_
        refine lv_iconst (pc := 38) (v := (ii 1)) hx hb dX5_next_38 (by decide) ?_
        refine lv_iadd (pc := 39) hx hb dX5_next_39 ?_
        replace hf := nm_s hf; obtain ⟨I6, hI6, hf⟩ := hf
        refine x_puti (pc := 40) X V okX5 (by decide) ht1 14 (by decide) q1535 (Or.inl rfl) hI6 (fun _ _ _ => rfl) rfl rfl dX5_next_40 (fun H locs V => ?_)
        refine lv_goto (pc := 43) (tgt := 8) hx hb dX5_next_43 (by decide) ?_
        exact ih hf V (lv_sub hl [0] rfl)
set_option maxHeartbeats 400000 in
set_option maxRecDepth 100000 in
theorem wX5_next_e {nf : Nat} {p : Program} {l : Launch} {e : Env} {s : State} {m : MethodId} {args : Array Value} {below : List Frame} {meth : Method} {c : Code} {D : va_G} {dA : Nat → ClassId} {s0 : Nat} {T : xT} {N : xT} {Z : Nat} {I : xI} {L : xL} {R : xR} {H : Heap} {locs : List Loc} {ls : Array Slot} {x0 : Nat} {Io : xI} {Lo : xL} (X : Cx D dA s0 p m c cX5_next 1 s args RX5 meth) (hr : meth.sig.returnType = none) (hf : fX5_next nf T N I L R x0 = some (Io, Lo)) (V : Iv D dA s0 s T N Z I L R H locs) (hl : lv_has ls 1 [(0, .ref x0)]) : W p l e { frames := 1, cells := 0, slots := 0, locals := 20 } s m args below meth c H locs 0 0 (MQ below (xQ D dA s0 none T N Z Io Lo R) args s 0 0 (fun q => s0 ≤ q)) (F0 m 0 ls []) := by
  have hx := X.1.1
  have hb := X.1.2.1
  unfold fX5_next at hf
  refine lv_aload_n (pc := 0) hx hb dX5_next_0 rfl (lv_at hl 0 rfl) ?_
  refine lv_aload_n (pc := 1) hx hb dX5_next_1 rfl (lv_at hl 0 rfl) ?_
  replace hf := tg_s hf; obtain ⟨ht1, hf⟩ := hf
  refine x_get (pc := 2) X V okX5 ht1 15 (by decide) q1536 (v := .int (I x0 15)) rfl dX5_next_2 ?_
  replace hf := nm_s hf; obtain ⟨I2, hI2, hf⟩ := hf
  refine x_puti (pc := 5) X V okX5 (by decide) ht1 14 (by decide) q1535 (Or.inl rfl) hI2 (fun _ _ _ => rfl) rfl rfl dX5_next_5 (fun H locs V => ?_)
  exact wX5_next_b8 X hr nf hf V (lv_sub hl [0] rfl)
theorem mX5_next {nf : Nat} (l : Launch) (D : va_G) (dA : Nat → ClassId) (s0 : Nat) {T : xT} {N : xT} {Z : Nat} {I : xI} {L : xL} {R : xR} {x0 : Nat} {Io : xI} {Lo : xL} (hf : fX5_next nf T N I L R x0 = some (Io, Lo)) : XMet l D dA s0 yX5_next (ws_ yX5_next cX5_next 1 (none)) (1) (20) [.ref x0] T N Z I L R none T N Z Io Lo R 0 0 :=
  x_start (own := RX5) rfl (by decide) (Nat.le_of_ble_eq_true rfl) (lv := [(0, .ref x0)]) rfl (fun p e s m below meth c ls X hr hini V hl => wX5_next_e X hr hf V hl)
set_option maxHeartbeats 400000 in
set_option maxRecDepth 100000 in
theorem wX5_begin_e {nf : Nat} {p : Program} {l : Launch} {e : Env} {s : State} {m : MethodId} {args : Array Value} {below : List Frame} {meth : Method} {c : Code} {D : va_G} {dA : Nat → ClassId} {s0 : Nat} {T : xT} {N : xT} {Z : Nat} {I : xI} {L : xL} {R : xR} {H : Heap} {locs : List Loc} {ls : Array Slot} {x0 : Nat} {Io : xI} {Lo : xL} (X : Cx D dA s0 p m c cX5_begin 1 s args RX5 meth) (hr : meth.sig.returnType = none) (hf : fX5_begin nf T N I L R x0 = some (Io, Lo)) (V : Iv D dA s0 s T N Z I L R H locs) (hl : lv_has ls 1 [(0, .ref x0)]) : W p l e { frames := 2, cells := 0, slots := 0, locals := 40 } s m args below meth c H locs 0 0 (MQ below (xQ D dA s0 none T N Z Io Lo R) args s 0 0 (fun q => s0 ≤ q)) (F0 m 0 ls []) := by
  have hx := X.1.1
  have hb := X.1.2.1
  unfold fX5_begin at hf
  refine lv_aload_n (pc := 0) hx hb dX5_begin_0 rfl (lv_at hl 0 rfl) ?_
  refine lv_iconst (pc := 1) (v := (ii 0)) hx hb dX5_begin_1 (by decide) ?_
  replace hf := tg_s hf; obtain ⟨ht1, hf⟩ := hf
  replace hf := nm_s hf; obtain ⟨I2, hI2, hf⟩ := hf
  refine x_puti (pc := 2) X V okX5 (by decide) ht1 15 (by decide) q1536 (Or.inl rfl) hI2 (fun _ _ _ => rfl) rfl rfl dX5_begin_2 (fun H locs V => ?_)
  refine lv_aload_n (pc := 5) hx hb dX5_begin_5 rfl (lv_at hl 0 rfl) ?_
  refine lv_iconst (pc := 6) (v := (ii 0)) hx hb dX5_begin_6 (by decide) ?_
  replace hf := nm_s hf; obtain ⟨I3, hI3, hf⟩ := hf
  refine x_puti (pc := 7) X V okX5 (by decide) ht1 19 (by decide) q1540 (Or.inl rfl) hI3 (fun _ _ _ => rfl) (by decide) (by decide) dX5_begin_7 (fun H locs V => ?_)
  refine lv_aload_n (pc := 10) hx hb dX5_begin_10 rfl (lv_at hl 0 rfl) ?_
  refine lv_iconst (pc := 11) (v := (-1 : Int32)) hx hb dX5_begin_11 (by decide) ?_
  replace hf := nm_s hf; obtain ⟨I4, hI4, hf⟩ := hf
  refine x_puti (pc := 12) X V okX5 (by decide) ht1 18 (by decide) q1539 (Or.inl rfl) hI4 (fun _ _ _ => rfl) rfl rfl dX5_begin_12 (fun H locs V => ?_)
  refine lv_aload_n (pc := 15) hx hb dX5_begin_15 rfl (lv_at hl 0 rfl) ?_
  replace hf := b2s hf; obtain ⟨I5, L6, hk_7, hf⟩ := hf
  refine x_callV0 (pc := 16) (As := []) (rest := []) X V (mX5_next l D dA s0 hk_7) okX5 ht1 q1854 q1856 qs65 q129 q1857 ⟨rfl, hsX5_next⟩ ⟨Nat.le_of_ble_eq_true rfl, Nat.le_of_ble_eq_true rfl⟩ rfl hl.1 rfl (Nat.le_of_ble_eq_true rfl) dX5_begin_16 ⟨Nat.zero_le _, Nat.zero_le _⟩ (fun H locs V => W.eq (g2 := F0 m 19 ls []) rfl ?_)
  cases hf
  exact x_vret (pc := 19) X V hr dX5_begin_19
theorem mX5_begin {nf : Nat} (l : Launch) (D : va_G) (dA : Nat → ClassId) (s0 : Nat) {T : xT} {N : xT} {Z : Nat} {I : xI} {L : xL} {R : xR} {x0 : Nat} {Io : xI} {Lo : xL} (hf : fX5_begin nf T N I L R x0 = some (Io, Lo)) : XMet l D dA s0 yX5_begin (ws_ yX5_begin cX5_begin 1 (none)) (2) (40) [.ref x0] T N Z I L R none T N Z Io Lo R 0 0 :=
  x_start (own := RX5) rfl (by decide) (Nat.le_of_ble_eq_true rfl) (lv := [(0, .ref x0)]) rfl (fun p e s m below meth c ls X hr hini V hl => wX5_begin_e X hr hf V hl)
set_option maxHeartbeats 400000 in
set_option maxRecDepth 100000 in
theorem wX5_beginText_e {nf : Nat} {p : Program} {l : Launch} {e : Env} {s : State} {m : MethodId} {args : Array Value} {below : List Frame} {meth : Method} {c : Code} {D : va_G} {dA : Nat → ClassId} {s0 : Nat} {T : xT} {N : xT} {Z : Nat} {I : xI} {L : xL} {R : xR} {H : Heap} {locs : List Loc} {ls : Array Slot} {x0 : Nat} {x1 : Int32} {Io : xI} {Lo : xL} (X : Cx D dA s0 p m c cX5_beginText 2 s args RX5 meth) (hr : meth.sig.returnType = none) (hf : fX5_beginText nf T N I L R x0 x1 = some (Io, Lo)) (V : Iv D dA s0 s T N Z I L R H locs) (hl : lv_has ls 2 [(0, .ref x0), (1, .int x1)]) : W p l e { frames := 3, cells := 0, slots := 0, locals := 60 } s m args below meth c H locs 0 0 (MQ below (xQ D dA s0 none T N Z Io Lo R) args s 0 0 (fun q => s0 ≤ q)) (F0 m 0 ls []) := by
  have hx := X.1.1
  have hb := X.1.2.1
  unfold fX5_beginText at hf
  refine lv_aload_n (pc := 0) hx hb dX5_beginText_0 rfl (lv_at hl 0 rfl) ?_
  refine lv_iload_n (pc := 1) hx hb dX5_beginText_1 rfl (lv_at hl 1 rfl) ?_
  replace hf := tg_s hf; obtain ⟨ht1, hf⟩ := hf
  replace hf := chk_s hf; obtain ⟨hz2, hf⟩ := hf
  replace hf := nm_s hf; obtain ⟨I3, hI3, hf⟩ := hf
  refine x_puti (pc := 2) X V okX5 (by decide) ht1 20 (by decide) q1541 (Or.inl rfl) hI3 (fun _ _ _ => rfl) (zb_n hz2) (zb_f hz2) dX5_beginText_2 (fun H locs V => ?_)
  refine lv_aload_n (pc := 5) hx hb dX5_beginText_5 rfl (lv_at hl 0 rfl) ?_
  replace hf := b2s hf; obtain ⟨I4, L5, hk_6, hf⟩ := hf
  refine x_callV0 (pc := 6) (As := []) (rest := []) X V (mX5_begin l D dA s0 hk_6) okX5 ht1 q1850 q1852 qs64 q129 q1853 ⟨rfl, hsX5_begin⟩ ⟨Nat.le_of_ble_eq_true rfl, Nat.le_of_ble_eq_true rfl⟩ rfl hl.1 rfl (Nat.le_of_ble_eq_true rfl) dX5_beginText_6 ⟨Nat.zero_le _, Nat.zero_le _⟩ (fun H locs V => W.eq (g2 := F0 m 9 ls []) rfl ?_)
  refine lv_aload_n (pc := 9) hx hb dX5_beginText_9 rfl (lv_at hl 0 rfl) ?_
  refine lv_iconst (pc := 10) (v := (ii 0)) hx hb dX5_beginText_10 (by decide) ?_
  replace hf := nm_s hf; obtain ⟨I7, hI7, hf⟩ := hf
  refine x_puti (pc := 11) X V okX5 (by decide) ht1 21 (by decide) q1542 (Or.inl rfl) hI7 (fun _ _ _ => rfl) rfl rfl dX5_beginText_11 (fun H locs V => ?_)
  refine lv_aload_n (pc := 14) hx hb dX5_beginText_14 rfl (lv_at hl 0 rfl) ?_
  refine lv_iconst (pc := 15) (v := (ii 0)) hx hb dX5_beginText_15 (by decide) ?_
  replace hf := nm_s hf; obtain ⟨I8, hI8, hf⟩ := hf
  refine x_puti (pc := 16) X V okX5 (by decide) ht1 23 (by decide) q1544 (Or.inl rfl) hI8 (fun _ _ _ => rfl) rfl rfl dX5_beginText_16 (fun H locs V => ?_)
  refine lv_aload_n (pc := 19) hx hb dX5_beginText_19 rfl (lv_at hl 0 rfl) ?_
  refine lv_iconst (pc := 20) (v := (ii 0)) hx hb dX5_beginText_20 (by decide) ?_
  replace hf := nm_s hf; obtain ⟨I9, hI9, hf⟩ := hf
  refine x_puti (pc := 21) X V okX5 (by decide) ht1 26 (by decide) q1547 (Or.inl rfl) hI9 (fun _ _ _ => rfl) rfl rfl dX5_beginText_21 (fun H locs V => ?_)
  cases hf
  exact x_vret (pc := 24) X V hr dX5_beginText_24
theorem mX5_beginText {nf : Nat} (l : Launch) (D : va_G) (dA : Nat → ClassId) (s0 : Nat) {T : xT} {N : xT} {Z : Nat} {I : xI} {L : xL} {R : xR} {x0 : Nat} {x1 : Int32} {Io : xI} {Lo : xL} (hf : fX5_beginText nf T N I L R x0 x1 = some (Io, Lo)) : XMet l D dA s0 yX5_beginText (ws_ yX5_beginText cX5_beginText 2 (none)) (3) (60) [.ref x0, .int x1] T N Z I L R none T N Z Io Lo R 0 0 :=
  x_start (own := RX5) rfl (by decide) (Nat.le_of_ble_eq_true rfl) (lv := [(0, .ref x0), (1, .int x1)]) rfl (fun p e s m below meth c ls X hr hini V hl => wX5_beginText_e X hr hf V hl)
set_option maxHeartbeats 400000 in
set_option maxRecDepth 100000 in
theorem wX5_isWord_e {p : Program} {l : Launch} {e : Env} {s : State} {m : MethodId} {args : Array Value} {below : List Frame} {meth : Method} {c : Code} {D : va_G} {dA : Nat → ClassId} {s0 : Nat} {T : xT} {N : xT} {Z : Nat} {I : xI} {L : xL} {R : xR} {H : Heap} {locs : List Loc} {ls : Array Slot} {x0 : Nat} {x1 : Int64} {ro : Int32} (X : Cx D dA s0 p m c cX5_isWord 3 s args RX5 meth) (hr : meth.sig.returnType = (some .boolean)) (hf : fX5_isWord T I L x0 x1 = some ro) (V : Iv D dA s0 s T N Z I L R H locs) (hl : lv_has ls 3 [(0, .ref x0), (1, .long x1)]) : W p l e { frames := 0, cells := 0, slots := 0, locals := 0 } s m args below meth c H locs 0 0 (MQ below (xQ D dA s0 (some (.int ro)) T N Z I L R) args s 0 0 (fun q => s0 ≤ q)) (F0 m 0 ls []) := by
  have hx := X.1.1
  have hb := X.1.2.1
  unfold fX5_isWord at hf
  refine lv_aload_n (pc := 0) hx hb dX5_isWord_0 rfl (lv_at hl 0 rfl) ?_
  replace hf := tg_s hf; obtain ⟨ht1, hf⟩ := hf
  refine x_get (pc := 1) X V okX5 ht1 16 (by decide) q1537 (v := .int (I x0 16)) rfl dX5_isWord_1 ?_
  refine lv_iconst (pc := 4) (v := (ii 1)) hx hb dX5_isWord_4 (by decide) ?_
  refine lv_icmp_ne (pc := 5) (tgt := 21) hx hb dX5_isWord_5 (by decide) (fun c2 => ?_) (fun c2 => ?_)
  · replace hf := if_f hf c2
    refine lv_iconst (pc := 21) (v := (ii 0)) hx hb dX5_isWord_21 (by decide) ?_
    cases hf
    exact x_zret (pc := 22) X V hr (by decide) dX5_isWord_22
  · replace hf := if_t hf c2
    refine lv_aload_n (pc := 8) hx hb dX5_isWord_8 rfl (lv_at hl 0 rfl) ?_
    refine x_get (pc := 9) X V okX5 ht1 17 (by decide) q1538 (v := .long (L x0 17)) rfl dX5_isWord_9 ?_
    refine lv_lload_n (pc := 12) hx hb dX5_isWord_12 rfl (lv_at hl 1 rfl) ?_
    refine lc_ne (pc := 13) (tgt := 21) hx hb dX5_isWord_13 dX5_isWord_14 (by decide) (fun c3 => ?_) (fun c3 => ?_)
    · replace hf := if_f hf c3
      refine lv_iconst (pc := 21) (v := (ii 0)) hx hb dX5_isWord_21 (by decide) ?_
      cases hf
      exact x_zret (pc := 22) X V hr (by decide) dX5_isWord_22
    · replace hf := if_t hf c3
      refine lv_iconst (pc := 17) (v := (ii 1)) hx hb dX5_isWord_17 (by decide) ?_
      refine lv_goto (pc := 18) (tgt := 22) hx hb dX5_isWord_18 (by decide) ?_
      cases hf
      exact x_zret (pc := 22) X V hr (by decide) dX5_isWord_22
theorem mX5_isWord (l : Launch) (D : va_G) (dA : Nat → ClassId) (s0 : Nat) {T : xT} {N : xT} {Z : Nat} {I : xI} {L : xL} {R : xR} {x0 : Nat} {x1 : Int64} {ro : Int32} (hf : fX5_isWord T I L x0 x1 = some ro) : XMet l D dA s0 yX5_isWord (ws_ yX5_isWord cX5_isWord 3 ((some .boolean))) (0) (0) [.ref x0, .long x1] T N Z I L R (some (.int ro)) T N Z I L R 0 0 :=
  x_start (own := RX5) rfl (by decide) (Nat.le_of_ble_eq_true rfl) (lv := [(0, .ref x0), (1, .long x1)]) rfl (fun p e s m below meth c ls X hr hini V hl => wX5_isWord_e X hr hf V hl)
set_option maxHeartbeats 400000 in
set_option maxRecDepth 100000 in
theorem wX5_must_b24 {nf : Nat} {p : Program} {l : Launch} {e : Env} {s : State} {m : MethodId} {args : Array Value} {below : List Frame} {meth : Method} {c : Code} {D : va_G} {dA : Nat → ClassId} {s0 : Nat} {T : xT} {N : xT} {Z : Nat} {I : xI} {L : xL} {R : xR} {H : Heap} {locs : List Loc} {ls : Array Slot}  {x0 : Nat} {Io : xI} {Lo : xL} (X : Cx D dA s0 p m c cX5_must 2 s args RX5 meth) (hr : meth.sig.returnType = none)   (hf : fX5_must_b24 nf T N I L R x0 = some (Io, Lo)) (V : Iv D dA s0 s T N Z I L R H locs) (hl : lv_has ls 2 [(0, .ref x0)]) : W p l e { frames := 2, cells := 0, slots := 0, locals := 40 } s m args below meth c H locs 0 0 (MQ below (xQ D dA s0 none T N Z Io Lo R) args s 0 0 (fun q => s0 ≤ q)) (F0 m 24 ls []) := by
  have hx := X.1.1
  have hb := X.1.2.1
  unfold fX5_must_b24 at hf
  refine lv_aload_n (pc := 24) hx hb dX5_must_24 rfl (lv_at hl 0 rfl) ?_
  replace hf := tg_s hf; obtain ⟨ht1, hf⟩ := hf
  refine x_get (pc := 25) X V okX5 ht1 19 (by decide) q1540 (v := .int (I x0 19)) rfl dX5_must_25 ?_
  refine lv_if_ne (pc := 28) (tgt := 35) hx hb dX5_must_28 (by decide) (fun c2 => ?_) (fun c2 => ?_)
  · replace hf := if_f hf c2
    cases hf
    exact x_vret (pc := 35) X V hr dX5_must_35
  · replace hf := if_t hf c2
    refine lv_aload_n (pc := 31) hx hb dX5_must_31 rfl (lv_at hl 0 rfl) ?_
    replace hf := b2s hf; obtain ⟨I3, L4, hk_5, hf⟩ := hf
    refine x_callV0 (pc := 32) (As := []) (rest := []) X V (mX5_next l D dA s0 hk_5) okX5 ht1 q1854 q1856 qs65 q129 q1857 ⟨rfl, hsX5_next⟩ ⟨Nat.le_of_ble_eq_true rfl, Nat.le_of_ble_eq_true rfl⟩ rfl hl.1 rfl (Nat.le_of_ble_eq_true rfl) dX5_must_32 ⟨Nat.zero_le _, Nat.zero_le _⟩ (fun H locs V => W.eq (g2 := F0 m 35 ls []) rfl ?_)
    cases hf
    exact x_vret (pc := 35) X V hr dX5_must_35
set_option maxHeartbeats 400000 in
set_option maxRecDepth 100000 in
theorem wX5_must_e {nf : Nat} {p : Program} {l : Launch} {e : Env} {s : State} {m : MethodId} {args : Array Value} {below : List Frame} {meth : Method} {c : Code} {D : va_G} {dA : Nat → ClassId} {s0 : Nat} {T : xT} {N : xT} {Z : Nat} {I : xI} {L : xL} {R : xR} {H : Heap} {locs : List Loc} {ls : Array Slot} {x0 : Nat} {x1 : Int32} {Io : xI} {Lo : xL} (X : Cx D dA s0 p m c cX5_must 2 s args RX5 meth) (hr : meth.sig.returnType = none) (hf : fX5_must nf T N I L R x0 x1 = some (Io, Lo)) (V : Iv D dA s0 s T N Z I L R H locs) (hl : lv_has ls 2 [(0, .ref x0), (1, .int x1)]) : W p l e { frames := 2, cells := 0, slots := 0, locals := 40 } s m args below meth c H locs 0 0 (MQ below (xQ D dA s0 none T N Z Io Lo R) args s 0 0 (fun q => s0 ≤ q)) (F0 m 0 ls []) := by
  have hx := X.1.1
  have hb := X.1.2.1
  unfold fX5_must at hf
  refine lv_aload_n (pc := 0) hx hb dX5_must_0 rfl (lv_at hl 0 rfl) ?_
  replace hf := tg_s hf; obtain ⟨ht1, hf⟩ := hf
  refine x_get (pc := 1) X V okX5 ht1 19 (by decide) q1540 (v := .int (I x0 19)) rfl dX5_must_1 ?_
  refine lv_if_ne (pc := 4) (tgt := 24) hx hb dX5_must_4 (by decide) (fun c2 => ?_) (fun c2 => ?_)
  · replace hf := if_f hf c2
    exact wX5_must_b24 X hr hf V (lv_sub hl [0] rfl)
  · replace hf := if_t hf c2
    refine lv_iload_n (pc := 7) hx hb dX5_must_7 rfl (lv_at hl 1 rfl) ?_
    refine lv_if_ne (pc := 8) (tgt := 24) hx hb dX5_must_8 (by decide) (fun c3 => ?_) (fun c3 => ?_)
    · replace hf := if_f hf c3
      exact wX5_must_b24 X hr hf V (lv_sub hl [0] rfl)
    · replace hf := if_t hf c3
      refine lv_aload_n (pc := 11) hx hb dX5_must_11 rfl (lv_at hl 0 rfl) ?_
      refine lv_iconst (pc := 12) (v := (ii 1)) hx hb dX5_must_12 (by decide) ?_
      replace hf := nm_s hf; obtain ⟨I4, hI4, hf⟩ := hf
      refine x_puti (pc := 13) X V okX5 (by decide) ht1 19 (by decide) q1540 (Or.inl rfl) hI4 (fun _ _ _ => rfl) (by decide) (by decide) dX5_must_13 (fun H locs V => ?_)
      refine lv_aload_n (pc := 16) hx hb dX5_must_16 rfl (lv_at hl 0 rfl) ?_
      refine lv_aload_n (pc := 17) hx hb dX5_must_17 rfl (lv_at hl 0 rfl) ?_
      refine x_get (pc := 18) X V okX5 ht1 14 (by decide) q1535 (v := .int (I4 x0 14)) rfl dX5_must_18 ?_
      replace hf := nm_s hf; obtain ⟨I5, hI5, hf⟩ := hf
      refine x_puti (pc := 21) X V okX5 (by decide) ht1 18 (by decide) q1539 (Or.inl rfl) hI5 (fun _ _ _ => rfl) rfl rfl dX5_must_21 (fun H locs V => ?_)
      exact wX5_must_b24 X hr hf V (lv_sub hl [0] rfl)
theorem mX5_must {nf : Nat} (l : Launch) (D : va_G) (dA : Nat → ClassId) (s0 : Nat) {T : xT} {N : xT} {Z : Nat} {I : xI} {L : xL} {R : xR} {x0 : Nat} {x1 : Int32} {Io : xI} {Lo : xL} (hf : fX5_must nf T N I L R x0 x1 = some (Io, Lo)) : XMet l D dA s0 yX5_must (ws_ yX5_must cX5_must 2 (none)) (2) (40) [.ref x0, .int x1] T N Z I L R none T N Z Io Lo R 0 0 :=
  x_start (own := RX5) rfl (by decide) (Nat.le_of_ble_eq_true rfl) (lv := [(0, .ref x0), (1, .int x1)]) rfl (fun p e s m below meth c ls X hr hini V hl => wX5_must_e X hr hf V hl)
set_option maxHeartbeats 400000 in
set_option maxRecDepth 100000 in
theorem wX5_push_e {p : Program} {l : Launch} {e : Env} {s : State} {m : MethodId} {args : Array Value} {below : List Frame} {meth : Method} {c : Code} {D : va_G} {dA : Nat → ClassId} {s0 : Nat} {T : xT} {N : xT} {Z : Nat} {I : xI} {L : xL} {R : xR} {H : Heap} {locs : List Loc} {ls : Array Slot} {x0 : Nat} {x1 : Int32} {x2 : Int32} {Io : xI} (X : Cx D dA s0 p m c cX5_push 3 s args RX5 meth) (hr : meth.sig.returnType = none) (hf : fX5_push T N I R x0 x1 x2 = some Io) (V : Iv D dA s0 s T N Z I L R H locs) (hl : lv_has ls 3 [(0, .ref x0), (1, .int x1), (2, .int x2)]) : W p l e { frames := 0, cells := 0, slots := 0, locals := 0 } s m args below meth c H locs 0 0 (MQ below (xQ D dA s0 none T N Z Io L R) args s 0 0 (fun q => s0 ≤ q)) (F0 m 0 ls []) := by
  have hx := X.1.1
  have hb := X.1.2.1
  unfold fX5_push at hf
  refine lv_aload_n (pc := 0) hx hb dX5_push_0 rfl (lv_at hl 0 rfl) ?_
  replace hf := tg_s hf; obtain ⟨ht1, hf⟩ := hf
  replace hf := bs hf; obtain ⟨a2, ha2, hf⟩ := hf
  refine x_get (pc := 1) X V okX5 ht1 27 (by decide) q1548 (v := va_rf (R x0 27)) rfl dX5_push_1 ?_
  refine x_topr ha2 ?_
  refine lv_aload_n (pc := 4) hx hb dX5_push_4 rfl (lv_at hl 0 rfl) ?_
  refine x_get (pc := 5) X V okX5 ht1 29 (by decide) q1550 (v := .int (I x0 29)) rfl dX5_push_5 ?_
  refine lv_iload_n (pc := 8) hx hb dX5_push_8 rfl (lv_at hl 1 rfl) ?_
  replace hf := rA_s hf; obtain ⟨j3, hjj3, htj3, hij3, hf⟩ := hf
  replace hf := nm_s hf; obtain ⟨I4, hI4, hf⟩ := hf
  refine x_iast (pc := 9) X V htj3 hij3 hjj3 hI4 dX5_push_9 (fun H locs V => ?_)
  refine lv_aload_n (pc := 10) hx hb dX5_push_10 rfl (lv_at hl 0 rfl) ?_
  replace hf := bs hf; obtain ⟨a5, ha5, hf⟩ := hf
  refine x_get (pc := 11) X V okX5 ht1 28 (by decide) q1549 (v := va_rf (R x0 28)) rfl dX5_push_11 ?_
  refine x_topr ha5 ?_
  refine lv_aload_n (pc := 14) hx hb dX5_push_14 rfl (lv_at hl 0 rfl) ?_
  refine x_get (pc := 15) X V okX5 ht1 29 (by decide) q1550 (v := .int (I4 x0 29)) rfl dX5_push_15 ?_
  refine lv_iload_n (pc := 18) hx hb dX5_push_18 rfl (lv_at hl 2 rfl) ?_
  replace hf := rA_s hf; obtain ⟨j6, hjj6, htj6, hij6, hf⟩ := hf
  replace hf := nm_s hf; obtain ⟨I7, hI7, hf⟩ := hf
  refine x_iast (pc := 19) X V htj6 hij6 hjj6 hI7 dX5_push_19 (fun H locs V => ?_)
  refine lv_aload_n (pc := 20) hx hb dX5_push_20 rfl (lv_at hl 0 rfl) ?_
  refine lv_dup (pc := 21) hx hb dX5_push_21 rfl ?_
  refine x_get (pc := 22) X V okX5 ht1 29 (by decide) q1550 (v := .int (I7 x0 29)) rfl dX5_push_22 ?_
  refine lv_iconst (pc := 25) (v := (ii 1)) hx hb dX5_push_25 (by decide) ?_
  refine lv_iadd (pc := 26) hx hb dX5_push_26 ?_
  replace hf := nm_s hf; obtain ⟨I8, hI8, hf⟩ := hf
  refine x_puti (pc := 27) X V okX5 (by decide) ht1 29 (by decide) q1550 (Or.inl rfl) hI8 (fun _ _ _ => rfl) rfl rfl dX5_push_27 (fun H locs V => ?_)
  cases hf
  exact x_vret (pc := 30) X V hr dX5_push_30
theorem mX5_push (l : Launch) (D : va_G) (dA : Nat → ClassId) (s0 : Nat) {T : xT} {N : xT} {Z : Nat} {I : xI} {L : xL} {R : xR} {x0 : Nat} {x1 : Int32} {x2 : Int32} {Io : xI} (hf : fX5_push T N I R x0 x1 x2 = some Io) : XMet l D dA s0 yX5_push (ws_ yX5_push cX5_push 3 (none)) (0) (0) [.ref x0, .int x1, .int x2] T N Z I L R none T N Z Io L R 0 0 :=
  x_start (own := RX5) rfl (by decide) (Nat.le_of_ble_eq_true rfl) (lv := [(0, .ref x0), (1, .int x1), (2, .int x2)]) rfl (fun p e s m below meth c ls X hr hini V hl => wX5_push_e X hr hf V hl)
set_option maxHeartbeats 400000 in
set_option maxRecDepth 100000 in
theorem wX5_isSign_e {p : Program} {l : Launch} {e : Env} {s : State} {m : MethodId} {args : Array Value} {below : List Frame} {meth : Method} {c : Code} {D : va_G} {dA : Nat → ClassId} {s0 : Nat} {T : xT} {N : xT} {Z : Nat} {I : xI} {L : xL} {R : xR} {H : Heap} {locs : List Loc} {ls : Array Slot} {x0 : Nat} {x1 : Int32} {ro : Int32} (X : Cx D dA s0 p m c cX5_isSign 2 s args RX5 meth) (hr : meth.sig.returnType = (some .boolean)) (hf : fX5_isSign T I L x0 x1 = some ro) (V : Iv D dA s0 s T N Z I L R H locs) (hl : lv_has ls 2 [(0, .ref x0), (1, .int x1)]) : W p l e { frames := 0, cells := 0, slots := 0, locals := 0 } s m args below meth c H locs 0 0 (MQ below (xQ D dA s0 (some (.int ro)) T N Z I L R) args s 0 0 (fun q => s0 ≤ q)) (F0 m 0 ls []) := by
  have hx := X.1.1
  have hb := X.1.2.1
  unfold fX5_isSign at hf
  refine lv_aload_n (pc := 0) hx hb dX5_isSign_0 rfl (lv_at hl 0 rfl) ?_
  replace hf := tg_s hf; obtain ⟨ht1, hf⟩ := hf
  refine x_get (pc := 1) X V okX5 ht1 16 (by decide) q1537 (v := .int (I x0 16)) rfl dX5_isSign_1 ?_
  refine lv_iconst (pc := 4) (v := (ii 3)) hx hb dX5_isSign_4 (by decide) ?_
  refine lv_icmp_ne (pc := 5) (tgt := 22) hx hb dX5_isSign_5 (by decide) (fun c2 => ?_) (fun c2 => ?_)
  · replace hf := if_f hf c2
    refine lv_iconst (pc := 22) (v := (ii 0)) hx hb dX5_isSign_22 (by decide) ?_
    cases hf
    exact x_zret (pc := 23) X V hr (by decide) dX5_isSign_23
  · replace hf := if_t hf c2
    refine lv_aload_n (pc := 8) hx hb dX5_isSign_8 rfl (lv_at hl 0 rfl) ?_
    refine x_get (pc := 9) X V okX5 ht1 17 (by decide) q1538 (v := .long (L x0 17)) rfl dX5_isSign_9 ?_
    refine lv_iload_n (pc := 12) hx hb dX5_isSign_12 rfl (lv_at hl 1 rfl) ?_
    refine lv_i2l (pc := 13) hx hb dX5_isSign_13 rfl ?_
    refine lc_ne (pc := 14) (tgt := 22) hx hb dX5_isSign_14 dX5_isSign_15 (by decide) (fun c3 => ?_) (fun c3 => ?_)
    · replace hf := if_f hf c3
      refine lv_iconst (pc := 22) (v := (ii 0)) hx hb dX5_isSign_22 (by decide) ?_
      cases hf
      exact x_zret (pc := 23) X V hr (by decide) dX5_isSign_23
    · replace hf := if_t hf c3
      refine lv_iconst (pc := 18) (v := (ii 1)) hx hb dX5_isSign_18 (by decide) ?_
      refine lv_goto (pc := 19) (tgt := 23) hx hb dX5_isSign_19 (by decide) ?_
      cases hf
      exact x_zret (pc := 23) X V hr (by decide) dX5_isSign_23
theorem mX5_isSign (l : Launch) (D : va_G) (dA : Nat → ClassId) (s0 : Nat) {T : xT} {N : xT} {Z : Nat} {I : xI} {L : xL} {R : xR} {x0 : Nat} {x1 : Int32} {ro : Int32} (hf : fX5_isSign T I L x0 x1 = some ro) : XMet l D dA s0 yX5_isSign (ws_ yX5_isSign cX5_isSign 2 ((some .boolean))) (0) (0) [.ref x0, .int x1] T N Z I L R (some (.int ro)) T N Z I L R 0 0 :=
  x_start (own := RX5) rfl (by decide) (Nat.le_of_ble_eq_true rfl) (lv := [(0, .ref x0), (1, .int x1)]) rfl (fun p e s m below meth c ls X hr hini V hl => wX5_isSign_e X hr hf V hl)
set_option maxHeartbeats 400000 in
set_option maxRecDepth 100000 in
theorem wX5_openBracket_b15 {nf : Nat} {p : Program} {l : Launch} {e : Env} {s : State} {m : MethodId} {args : Array Value} {below : List Frame} {meth : Method} {c : Code} {D : va_G} {dA : Nat → ClassId} {s0 : Nat} {T : xT} {N : xT} {Z : Nat} {I : xI} {L : xL} {R : xR} {H : Heap} {locs : List Loc} {ls : Array Slot}  {x0 : Nat} {x1 : Int32} {z0 : Nat} {z1 : Int32} {Io : xI} {Lo : xL} (X : Cx D dA s0 p m c cX5_openBracket 2 s args RX5 meth) (hr : meth.sig.returnType = none)   (hf : fX5_openBracket_b15 nf T N I L R x0 x1 z0 z1 = some (Io, Lo)) (V : Iv D dA s0 s T N Z I L R H locs) (hl : lv_has ls 2 [(0, .ref x0), (1, .int x1)]) : W p l e { frames := 3, cells := 0, slots := 0, locals := 61 } s m args below meth c H locs 0 0 (MQ below (xQ D dA s0 none T N Z Io Lo R) args s 0 0 (fun q => s0 ≤ q)) (F0 m 15 ls [.int z1, .ref z0]) := by
  have hx := X.1.1
  have hb := X.1.2.1
  unfold fX5_openBracket_b15 at hf
  replace hf := tg_s hf; obtain ⟨ht4, hf⟩ := hf
  replace hf := b2s hf; obtain ⟨I1, L2, hk_3, hf⟩ := hf
  refine x_callV0 (pc := 15) (As := [.int z1]) (rest := []) X V (mX5_must l D dA s0 hk_3) okX5 ht4 q1876 q1878 qs68 q129 q1879 ⟨rfl, hsX5_must⟩ ⟨Nat.le_of_ble_eq_true rfl, Nat.le_of_ble_eq_true rfl⟩ rfl hl.1 rfl (Nat.le_of_ble_eq_true rfl) dX5_openBracket_15 ⟨Nat.zero_le _, Nat.zero_le _⟩ (fun H locs V => W.eq (g2 := F0 m 18 ls []) rfl ?_)
  refine lv_aload_n (pc := 18) hx hb dX5_openBracket_18 rfl (lv_at hl 0 rfl) ?_
  replace hf := tg_s hf; obtain ⟨ht5, hf⟩ := hf
  refine x_get (pc := 19) X V okX5 ht5 19 (by decide) q1540 (v := .int (I1 x0 19)) rfl dX5_openBracket_19 ?_
  refine lv_if_ne (pc := 22) (tgt := 41) hx hb dX5_openBracket_22 (by decide) (fun c6 => ?_) (fun c6 => ?_)
  · replace hf := if_f hf c6
    cases hf
    exact x_vret (pc := 41) X V hr dX5_openBracket_41
  · replace hf := if_t hf c6
    refine lv_aload_n (pc := 25) hx hb dX5_openBracket_25 rfl (lv_at hl 0 rfl) ?_
    refine lv_dup (pc := 26) hx hb dX5_openBracket_26 rfl ?_
    refine x_get (pc := 27) X V okX5 ht5 30 (by decide) q1551 (v := .int (I1 x0 30)) rfl dX5_openBracket_27 ?_
    refine lv_iconst (pc := 30) (v := (ii 1)) hx hb dX5_openBracket_30 (by decide) ?_
    refine lv_iadd (pc := 31) hx hb dX5_openBracket_31 ?_
    replace hf := nm_s hf; obtain ⟨I7, hI7, hf⟩ := hf
    refine x_puti (pc := 32) X V okX5 (by decide) ht5 30 (by decide) q1551 (Or.inl rfl) hI7 (fun _ _ _ => rfl) rfl rfl dX5_openBracket_32 (fun H locs V => ?_)
    refine lv_aload_n (pc := 35) hx hb dX5_openBracket_35 rfl (lv_at hl 0 rfl) ?_
    refine lv_iload_n (pc := 36) hx hb dX5_openBracket_36 rfl (lv_at hl 1 rfl) ?_
    refine lv_iconst (pc := 37) (v := (ii 0)) hx hb dX5_openBracket_37 (by decide) ?_
    replace hf := bs hf; obtain ⟨I8, hk_9, hf⟩ := hf
    refine x_callV0 (pc := 38) (As := [.int x1, .int (ii 0)]) (rest := []) X V (mX5_push l D dA s0 hk_9) okX5 ht5 q1889 q1891 qs71 q129 q1892 ⟨rfl, hsX5_push⟩ ⟨Nat.le_of_ble_eq_true rfl, Nat.le_of_ble_eq_true rfl⟩ rfl hl.1 rfl (Nat.le_of_ble_eq_true rfl) dX5_openBracket_38 ⟨Nat.zero_le _, Nat.zero_le _⟩ (fun H locs V => W.eq (g2 := F0 m 41 ls []) rfl ?_)
    cases hf
    exact x_vret (pc := 41) X V hr dX5_openBracket_41
set_option maxHeartbeats 400000 in
set_option maxRecDepth 100000 in
theorem wX5_openBracket_e {nf : Nat} {p : Program} {l : Launch} {e : Env} {s : State} {m : MethodId} {args : Array Value} {below : List Frame} {meth : Method} {c : Code} {D : va_G} {dA : Nat → ClassId} {s0 : Nat} {T : xT} {N : xT} {Z : Nat} {I : xI} {L : xL} {R : xR} {H : Heap} {locs : List Loc} {ls : Array Slot} {x0 : Nat} {x1 : Int32} {Io : xI} {Lo : xL} (X : Cx D dA s0 p m c cX5_openBracket 2 s args RX5 meth) (hr : meth.sig.returnType = none) (hf : fX5_openBracket nf T N I L R x0 x1 = some (Io, Lo)) (V : Iv D dA s0 s T N Z I L R H locs) (hl : lv_has ls 2 [(0, .ref x0), (1, .int x1)]) : W p l e { frames := 3, cells := 0, slots := 0, locals := 61 } s m args below meth c H locs 0 0 (MQ below (xQ D dA s0 none T N Z Io Lo R) args s 0 0 (fun q => s0 ≤ q)) (F0 m 0 ls []) := by
  have hx := X.1.1
  have hb := X.1.2.1
  unfold fX5_openBracket at hf
  refine lv_aload_n (pc := 0) hx hb dX5_openBracket_0 rfl (lv_at hl 0 rfl) ?_
  refine lv_aload_n (pc := 1) hx hb dX5_openBracket_1 rfl (lv_at hl 0 rfl) ?_
  replace hf := tg_s hf; obtain ⟨ht1, hf⟩ := hf
  refine x_get (pc := 2) X V okX5 ht1 30 (by decide) q1551 (v := .int (I x0 30)) rfl dX5_openBracket_2 ?_
  refine lv_bipush (pc := 5) (v := (ii 8)) hx hb dX5_openBracket_5 (by decide) ?_
  refine lv_icmp_ge (pc := 7) (tgt := 14) hx hb dX5_openBracket_7 (by decide) (fun c2 => ?_) (fun c2 => ?_)
  · replace hf := if_t hf c2
    refine lv_iconst (pc := 14) (v := (ii 0)) hx hb dX5_openBracket_14 (by decide) ?_
    exact wX5_openBracket_b15 X hr hf V (lv_sub hl [0, 1] rfl)
  · replace hf := if_f hf c2
    refine lv_iconst (pc := 10) (v := (ii 1)) hx hb dX5_openBracket_10 (by decide) ?_
    refine lv_goto (pc := 11) (tgt := 15) hx hb dX5_openBracket_11 (by decide) ?_
    exact wX5_openBracket_b15 X hr hf V (lv_sub hl [0, 1] rfl)
theorem mX5_openBracket {nf : Nat} (l : Launch) (D : va_G) (dA : Nat → ClassId) (s0 : Nat) {T : xT} {N : xT} {Z : Nat} {I : xI} {L : xL} {R : xR} {x0 : Nat} {x1 : Int32} {Io : xI} {Lo : xL} (hf : fX5_openBracket nf T N I L R x0 x1 = some (Io, Lo)) : XMet l D dA s0 yX5_openBracket (ws_ yX5_openBracket cX5_openBracket 2 (none)) (3) (61) [.ref x0, .int x1] T N Z I L R none T N Z Io Lo R 0 0 :=
  x_start (own := RX5) rfl (by decide) (Nat.le_of_ble_eq_true rfl) (lv := [(0, .ref x0), (1, .int x1)]) rfl (fun p e s m below meth c ls X hr hini V hl => wX5_openBracket_e X hr hf V hl)
set_option maxHeartbeats 400000 in
set_option maxRecDepth 100000 in
theorem wX5_orderPartAt_b4 {nf : Nat} {p : Program} {l : Launch} {e : Env} {s : State} {m : MethodId} {args : Array Value} {below : List Frame} {meth : Method} {c : Code} {D : va_G} {dA : Nat → ClassId} {s0 : Nat} {T : xT} {N : xT} {Z : Nat} {I : xI} {L : xL} {R : xR}  {ro : Int32} (X : Cx D dA s0 p m c cX5_orderPartAt 3 s args RX5 meth) (hr : meth.sig.returnType = (some .int))   (k : Nat) : ∀ {x0 : Nat} {x1 : Int32} {x2 : Int32} {H : Heap} {locs : List Loc} {ls : Array Slot} , fX5_orderPartAt_b4 nf T N I L R k x0 x1 x2 = some ro → Iv D dA s0 s T N Z I L R H locs → lv_has ls 3 [(0, .ref x0), (1, .int x1), (2, .int x2)] → W p l e { frames := 1, cells := 0, slots := 0, locals := 22 } s m args below meth c H locs 0 0 (MQ below (xQ D dA s0 (some (.int ro)) T N Z I L R) args s 0 0 (fun q => s0 ≤ q)) (F0 m 4 ls []) := by
  have hx := X.1.1
  have hb := X.1.2.1
  induction k with
  | zero =>
    intro x0 x1 x2 H locs ls hf V hl
    exact absurd (show none = some _ from hf) (fun q => nomatch q)
  | succ k ih =>
    intro x0 x1 x2 H locs ls hf V hl
    rw [fX5_orderPartAt_b4] at hf
    refine lv_iload_n (pc := 4) hx hb dX5_orderPartAt_4 rfl (lv_at hl 2 rfl) ?_
    refine lv_bipush (pc := 5) (v := (ii 7)) hx hb dX5_orderPartAt_5 (by decide) ?_
    refine lv_icmp_ge (pc := 7) (tgt := 37) hx hb dX5_orderPartAt_7 (by decide) (fun c1 => ?_) (fun c1 => ?_)
    · replace hf := if_t hf c1
      refine lv_iload_n (pc := 37) hx hb dX5_orderPartAt_37 rfl (lv_at hl 1 rfl) ?_
      cases hf
      exact x_iret (pc := 38) X V hr dX5_orderPartAt_38
    · replace hf := if_f hf c1
      refine lv_aload_n (pc := 10) hx hb dX5_orderPartAt_10 rfl (lv_at hl 0 rfl) ?_
      refine lv_aload_n (pc := 11) hx hb dX5_orderPartAt_11 rfl (lv_at hl 0 rfl) ?_
      replace hf := tg_s hf; obtain ⟨ht2, hf⟩ := hf
      replace hf := bs hf; obtain ⟨a3, ha3, hf⟩ := hf
      refine x_get (pc := 12) X V okX5 ht2 32 (by decide) q1553 (v := va_rf (R x0 32)) rfl dX5_orderPartAt_12 ?_
      refine x_topr ha3 ?_
      refine lv_iload_n (pc := 15) hx hb dX5_orderPartAt_15 rfl (lv_at hl 2 rfl) ?_
      replace hf := rA_s hf; obtain ⟨j4, hjj4, htj4, hij4, hf⟩ := hf
      refine x_lald (pc := 16) X V htj4 hij4 hjj4 dX5_orderPartAt_16 ?_
      replace hf := bs hf; obtain ⟨r5, hk_6, hf⟩ := hf
      refine x_callV0 (pc := 17) (As := [.long (L a3 j4)]) (rest := []) X V (mX5_isWord l D dA s0 hk_6) okX5 ht2 q1872 q1874 qs67 q129 q1875 ⟨rfl, hsX5_isWord⟩ ⟨Nat.le_of_ble_eq_true rfl, Nat.le_of_ble_eq_true rfl⟩ rfl hl.1 rfl (Nat.le_of_ble_eq_true rfl) dX5_orderPartAt_17 ⟨Nat.zero_le _, Nat.zero_le _⟩ (fun H locs V => W.eq (g2 := F0 m 20 ls [.int r5]) rfl ?_)
      refine lv_if_eq (pc := 20) (tgt := 29) hx hb dX5_orderPartAt_20 (by decide) (fun c7 => ?_) (fun c7 => ?_)
      · replace hf := if_t hf c7
        refine lv_iload_n (pc := 29) hx hb dX5_orderPartAt_29 rfl (lv_at hl 1 rfl) ?_
        refine lv_istore_n (pc := 30) (lv' := [(1, .int x1), (0, .ref x0), (2, .int x2)]) hx hb dX5_orderPartAt_30 rfl hl (by decide) rfl (fun ls hl => ?_)
        replace hf := nm_s hf; obtain ⟨u8, hu8, hf⟩ := hf
        refine lv_iinc (pc := 31) (v := u8) (lv' := [(2, .int u8), (1, .int x1), (0, .ref x0)]) hx hb dX5_orderPartAt_31 hl (k := 2) rfl (by rw [hu8]; rfl) (by decide) rfl (fun ls hl => ?_)
        refine lv_goto (pc := 34) (tgt := 4) hx hb dX5_orderPartAt_34 (by decide) ?_
        exact ih hf V (lv_sub hl [2, 1, 0] rfl)
      · replace hf := if_f hf c7
        refine lv_iload_n (pc := 23) hx hb dX5_orderPartAt_23 rfl (lv_at hl 2 rfl) ?_
        refine lv_iconst (pc := 24) (v := (ii 1)) hx hb dX5_orderPartAt_24 (by decide) ?_
        refine lv_iadd (pc := 25) hx hb dX5_orderPartAt_25 ?_
        refine lv_goto (pc := 26) (tgt := 30) hx hb dX5_orderPartAt_26 (by decide) ?_
        replace hf := nm_s hf; obtain ⟨u9, hu9, hf⟩ := hf
        refine x_topi hu9 ?_
        refine lv_istore_n (pc := 30) (lv' := [(1, .int u9), (0, .ref x0), (2, .int x2)]) hx hb dX5_orderPartAt_30 rfl hl (by decide) rfl (fun ls hl => ?_)
        replace hf := nm_s hf; obtain ⟨u10, hu10, hf⟩ := hf
        refine lv_iinc (pc := 31) (v := u10) (lv' := [(2, .int u10), (1, .int u9), (0, .ref x0)]) hx hb dX5_orderPartAt_31 hl (k := 2) rfl (by rw [hu10]; rfl) (by decide) rfl (fun ls hl => ?_)
        refine lv_goto (pc := 34) (tgt := 4) hx hb dX5_orderPartAt_34 (by decide) ?_
        exact ih hf V (lv_sub hl [2, 1, 0] rfl)
set_option maxHeartbeats 400000 in
set_option maxRecDepth 100000 in
theorem wX5_orderPartAt_e {nf : Nat} {p : Program} {l : Launch} {e : Env} {s : State} {m : MethodId} {args : Array Value} {below : List Frame} {meth : Method} {c : Code} {D : va_G} {dA : Nat → ClassId} {s0 : Nat} {T : xT} {N : xT} {Z : Nat} {I : xI} {L : xL} {R : xR} {H : Heap} {locs : List Loc} {ls : Array Slot} {x0 : Nat} {ro : Int32} (X : Cx D dA s0 p m c cX5_orderPartAt 3 s args RX5 meth) (hr : meth.sig.returnType = (some .int)) (hf : fX5_orderPartAt nf T N I L R x0 = some ro) (V : Iv D dA s0 s T N Z I L R H locs) (hl : lv_has ls 3 [(0, .ref x0)]) : W p l e { frames := 1, cells := 0, slots := 0, locals := 22 } s m args below meth c H locs 0 0 (MQ below (xQ D dA s0 (some (.int ro)) T N Z I L R) args s 0 0 (fun q => s0 ≤ q)) (F0 m 0 ls []) := by
  have hx := X.1.1
  have hb := X.1.2.1
  unfold fX5_orderPartAt at hf
  refine lv_iconst (pc := 0) (v := (-1 : Int32)) hx hb dX5_orderPartAt_0 (by decide) ?_
  refine lv_istore_n (pc := 1) (lv' := [(1, .int (-1 : Int32)), (0, .ref x0)]) hx hb dX5_orderPartAt_1 rfl hl (by decide) rfl (fun ls hl => ?_)
  refine lv_iconst (pc := 2) (v := (ii 0)) hx hb dX5_orderPartAt_2 (by decide) ?_
  refine lv_istore_n (pc := 3) (lv' := [(2, .int (ii 0)), (1, .int (-1 : Int32)), (0, .ref x0)]) hx hb dX5_orderPartAt_3 rfl hl (by decide) rfl (fun ls hl => ?_)
  exact wX5_orderPartAt_b4 X hr nf hf V (lv_sub hl [2, 1, 0] rfl)
theorem mX5_orderPartAt {nf : Nat} (l : Launch) (D : va_G) (dA : Nat → ClassId) (s0 : Nat) {T : xT} {N : xT} {Z : Nat} {I : xI} {L : xL} {R : xR} {x0 : Nat} {ro : Int32} (hf : fX5_orderPartAt nf T N I L R x0 = some ro) : XMet l D dA s0 yX5_orderPartAt (ws_ yX5_orderPartAt cX5_orderPartAt 3 ((some .int))) (1) (22) [.ref x0] T N Z I L R (some (.int ro)) T N Z I L R 0 0 :=
  x_start (own := RX5) rfl (by decide) (Nat.le_of_ble_eq_true rfl) (lv := [(0, .ref x0)]) rfl (fun p e s m below meth c ls X hr hini V hl => wX5_orderPartAt_e X hr hf V hl)
set_option maxHeartbeats 400000 in
set_option maxRecDepth 100000 in
theorem wX5_partAt_b4 {nf : Nat} {p : Program} {l : Launch} {e : Env} {s : State} {m : MethodId} {args : Array Value} {below : List Frame} {meth : Method} {c : Code} {D : va_G} {dA : Nat → ClassId} {s0 : Nat} {T : xT} {N : xT} {Z : Nat} {I : xI} {L : xL} {R : xR}  {ro : Int32} (X : Cx D dA s0 p m c cX5_partAt 3 s args RX5 meth) (hr : meth.sig.returnType = (some .int))   (k : Nat) : ∀ {x0 : Nat} {x1 : Int32} {x2 : Int32} {H : Heap} {locs : List Loc} {ls : Array Slot} , fX5_partAt_b4 nf T N I L R k x0 x1 x2 = some ro → Iv D dA s0 s T N Z I L R H locs → lv_has ls 3 [(0, .ref x0), (1, .int x1), (2, .int x2)] → W p l e { frames := 1, cells := 0, slots := 0, locals := 22 } s m args below meth c H locs 0 0 (MQ below (xQ D dA s0 (some (.int ro)) T N Z I L R) args s 0 0 (fun q => s0 ≤ q)) (F0 m 4 ls []) := by
  have hx := X.1.1
  have hb := X.1.2.1
  induction k with
  | zero =>
    intro x0 x1 x2 H locs ls hf V hl
    exact absurd (show none = some _ from hf) (fun q => nomatch q)
  | succ k ih =>
    intro x0 x1 x2 H locs ls hf V hl
    rw [fX5_partAt_b4] at hf
    refine lv_iload_n (pc := 4) hx hb dX5_partAt_4 rfl (lv_at hl 2 rfl) ?_
    refine lv_bipush (pc := 5) (v := (ii 9)) hx hb dX5_partAt_5 (by decide) ?_
    refine lv_icmp_ge (pc := 7) (tgt := 37) hx hb dX5_partAt_7 (by decide) (fun c1 => ?_) (fun c1 => ?_)
    · replace hf := if_t hf c1
      refine lv_iload_n (pc := 37) hx hb dX5_partAt_37 rfl (lv_at hl 1 rfl) ?_
      cases hf
      exact x_iret (pc := 38) X V hr dX5_partAt_38
    · replace hf := if_f hf c1
      refine lv_aload_n (pc := 10) hx hb dX5_partAt_10 rfl (lv_at hl 0 rfl) ?_
      refine lv_aload_n (pc := 11) hx hb dX5_partAt_11 rfl (lv_at hl 0 rfl) ?_
      replace hf := tg_s hf; obtain ⟨ht2, hf⟩ := hf
      replace hf := bs hf; obtain ⟨a3, ha3, hf⟩ := hf
      refine x_get (pc := 12) X V okX5 ht2 31 (by decide) q1552 (v := va_rf (R x0 31)) rfl dX5_partAt_12 ?_
      refine x_topr ha3 ?_
      refine lv_iload_n (pc := 15) hx hb dX5_partAt_15 rfl (lv_at hl 2 rfl) ?_
      replace hf := rA_s hf; obtain ⟨j4, hjj4, htj4, hij4, hf⟩ := hf
      refine x_lald (pc := 16) X V htj4 hij4 hjj4 dX5_partAt_16 ?_
      replace hf := bs hf; obtain ⟨r5, hk_6, hf⟩ := hf
      refine x_callV0 (pc := 17) (As := [.long (L a3 j4)]) (rest := []) X V (mX5_isWord l D dA s0 hk_6) okX5 ht2 q1872 q1874 qs67 q129 q1875 ⟨rfl, hsX5_isWord⟩ ⟨Nat.le_of_ble_eq_true rfl, Nat.le_of_ble_eq_true rfl⟩ rfl hl.1 rfl (Nat.le_of_ble_eq_true rfl) dX5_partAt_17 ⟨Nat.zero_le _, Nat.zero_le _⟩ (fun H locs V => W.eq (g2 := F0 m 20 ls [.int r5]) rfl ?_)
      refine lv_if_eq (pc := 20) (tgt := 29) hx hb dX5_partAt_20 (by decide) (fun c7 => ?_) (fun c7 => ?_)
      · replace hf := if_t hf c7
        refine lv_iload_n (pc := 29) hx hb dX5_partAt_29 rfl (lv_at hl 1 rfl) ?_
        refine lv_istore_n (pc := 30) (lv' := [(1, .int x1), (0, .ref x0), (2, .int x2)]) hx hb dX5_partAt_30 rfl hl (by decide) rfl (fun ls hl => ?_)
        replace hf := nm_s hf; obtain ⟨u8, hu8, hf⟩ := hf
        refine lv_iinc (pc := 31) (v := u8) (lv' := [(2, .int u8), (1, .int x1), (0, .ref x0)]) hx hb dX5_partAt_31 hl (k := 2) rfl (by rw [hu8]; rfl) (by decide) rfl (fun ls hl => ?_)
        refine lv_goto (pc := 34) (tgt := 4) hx hb dX5_partAt_34 (by decide) ?_
        exact ih hf V (lv_sub hl [2, 1, 0] rfl)
      · replace hf := if_f hf c7
        refine lv_iload_n (pc := 23) hx hb dX5_partAt_23 rfl (lv_at hl 2 rfl) ?_
        refine lv_iconst (pc := 24) (v := (ii 1)) hx hb dX5_partAt_24 (by decide) ?_
        refine lv_iadd (pc := 25) hx hb dX5_partAt_25 ?_
        refine lv_goto (pc := 26) (tgt := 30) hx hb dX5_partAt_26 (by decide) ?_
        replace hf := nm_s hf; obtain ⟨u9, hu9, hf⟩ := hf
        refine x_topi hu9 ?_
        refine lv_istore_n (pc := 30) (lv' := [(1, .int u9), (0, .ref x0), (2, .int x2)]) hx hb dX5_partAt_30 rfl hl (by decide) rfl (fun ls hl => ?_)
        replace hf := nm_s hf; obtain ⟨u10, hu10, hf⟩ := hf
        refine lv_iinc (pc := 31) (v := u10) (lv' := [(2, .int u10), (1, .int u9), (0, .ref x0)]) hx hb dX5_partAt_31 hl (k := 2) rfl (by rw [hu10]; rfl) (by decide) rfl (fun ls hl => ?_)
        refine lv_goto (pc := 34) (tgt := 4) hx hb dX5_partAt_34 (by decide) ?_
        exact ih hf V (lv_sub hl [2, 1, 0] rfl)
set_option maxHeartbeats 400000 in
set_option maxRecDepth 100000 in
theorem wX5_partAt_e {nf : Nat} {p : Program} {l : Launch} {e : Env} {s : State} {m : MethodId} {args : Array Value} {below : List Frame} {meth : Method} {c : Code} {D : va_G} {dA : Nat → ClassId} {s0 : Nat} {T : xT} {N : xT} {Z : Nat} {I : xI} {L : xL} {R : xR} {H : Heap} {locs : List Loc} {ls : Array Slot} {x0 : Nat} {ro : Int32} (X : Cx D dA s0 p m c cX5_partAt 3 s args RX5 meth) (hr : meth.sig.returnType = (some .int)) (hf : fX5_partAt nf T N I L R x0 = some ro) (V : Iv D dA s0 s T N Z I L R H locs) (hl : lv_has ls 3 [(0, .ref x0)]) : W p l e { frames := 1, cells := 0, slots := 0, locals := 22 } s m args below meth c H locs 0 0 (MQ below (xQ D dA s0 (some (.int ro)) T N Z I L R) args s 0 0 (fun q => s0 ≤ q)) (F0 m 0 ls []) := by
  have hx := X.1.1
  have hb := X.1.2.1
  unfold fX5_partAt at hf
  refine lv_iconst (pc := 0) (v := (-1 : Int32)) hx hb dX5_partAt_0 (by decide) ?_
  refine lv_istore_n (pc := 1) (lv' := [(1, .int (-1 : Int32)), (0, .ref x0)]) hx hb dX5_partAt_1 rfl hl (by decide) rfl (fun ls hl => ?_)
  refine lv_iconst (pc := 2) (v := (ii 0)) hx hb dX5_partAt_2 (by decide) ?_
  refine lv_istore_n (pc := 3) (lv' := [(2, .int (ii 0)), (1, .int (-1 : Int32)), (0, .ref x0)]) hx hb dX5_partAt_3 rfl hl (by decide) rfl (fun ls hl => ?_)
  exact wX5_partAt_b4 X hr nf hf V (lv_sub hl [2, 1, 0] rfl)
theorem mX5_partAt {nf : Nat} (l : Launch) (D : va_G) (dA : Nat → ClassId) (s0 : Nat) {T : xT} {N : xT} {Z : Nat} {I : xI} {L : xL} {R : xR} {x0 : Nat} {ro : Int32} (hf : fX5_partAt nf T N I L R x0 = some ro) : XMet l D dA s0 yX5_partAt (ws_ yX5_partAt cX5_partAt 3 ((some .int))) (1) (22) [.ref x0] T N Z I L R (some (.int ro)) T N Z I L R 0 0 :=
  x_start (own := RX5) rfl (by decide) (Nat.le_of_ble_eq_true rfl) (lv := [(0, .ref x0)]) rfl (fun p e s m below meth c ls X hr hini V hl => wX5_partAt_e X hr hf V hl)
set_option maxHeartbeats 400000 in
set_option maxRecDepth 100000 in
theorem wX5_emit_e {p : Program} {l : Launch} {e : Env} {s : State} {m : MethodId} {args : Array Value} {below : List Frame} {meth : Method} {c : Code} {D : va_G} {dA : Nat → ClassId} {s0 : Nat} {T : xT} {N : xT} {Z : Nat} {I : xI} {L : xL} {R : xR} {H : Heap} {locs : List Loc} {ls : Array Slot} {x0 : Nat} {x1 : Int32} {x2 : Int32} {Io : xI} (X : Cx D dA s0 p m c cX5_emit 3 s args RX5 meth) (hr : meth.sig.returnType = none) (hf : fX5_emit T N I R x0 x1 x2 = some Io) (V : Iv D dA s0 s T N Z I L R H locs) (hl : lv_has ls 3 [(0, .ref x0), (1, .int x1), (2, .int x2)]) : W p l e { frames := 0, cells := 0, slots := 0, locals := 0 } s m args below meth c H locs 0 0 (MQ below (xQ D dA s0 none T N Z Io L R) args s 0 0 (fun q => s0 ≤ q)) (F0 m 0 ls []) := by
  have hx := X.1.1
  have hb := X.1.2.1
  unfold fX5_emit at hf
  refine lv_aload_n (pc := 0) hx hb dX5_emit_0 rfl (lv_at hl 0 rfl) ?_
  replace hf := tg_s hf; obtain ⟨ht1, hf⟩ := hf
  replace hf := bs hf; obtain ⟨a2, ha2, hf⟩ := hf
  refine x_get (pc := 1) X V okX5 ht1 24 (by decide) q1545 (v := va_rf (R x0 24)) rfl dX5_emit_1 ?_
  refine x_topr ha2 ?_
  refine lv_aload_n (pc := 4) hx hb dX5_emit_4 rfl (lv_at hl 0 rfl) ?_
  refine x_get (pc := 5) X V okX5 ht1 23 (by decide) q1544 (v := .int (I x0 23)) rfl dX5_emit_5 ?_
  refine lv_iload_n (pc := 8) hx hb dX5_emit_8 rfl (lv_at hl 1 rfl) ?_
  replace hf := rA_s hf; obtain ⟨j3, hjj3, htj3, hij3, hf⟩ := hf
  replace hf := nm_s hf; obtain ⟨I4, hI4, hf⟩ := hf
  refine x_iast (pc := 9) X V htj3 hij3 hjj3 hI4 dX5_emit_9 (fun H locs V => ?_)
  refine lv_aload_n (pc := 10) hx hb dX5_emit_10 rfl (lv_at hl 0 rfl) ?_
  replace hf := bs hf; obtain ⟨a5, ha5, hf⟩ := hf
  refine x_get (pc := 11) X V okX5 ht1 25 (by decide) q1546 (v := va_rf (R x0 25)) rfl dX5_emit_11 ?_
  refine x_topr ha5 ?_
  refine lv_aload_n (pc := 14) hx hb dX5_emit_14 rfl (lv_at hl 0 rfl) ?_
  refine x_get (pc := 15) X V okX5 ht1 23 (by decide) q1544 (v := .int (I4 x0 23)) rfl dX5_emit_15 ?_
  refine lv_iload_n (pc := 18) hx hb dX5_emit_18 rfl (lv_at hl 2 rfl) ?_
  replace hf := rA_s hf; obtain ⟨j6, hjj6, htj6, hij6, hf⟩ := hf
  replace hf := nm_s hf; obtain ⟨I7, hI7, hf⟩ := hf
  refine x_iast (pc := 19) X V htj6 hij6 hjj6 hI7 dX5_emit_19 (fun H locs V => ?_)
  refine lv_aload_n (pc := 20) hx hb dX5_emit_20 rfl (lv_at hl 0 rfl) ?_
  refine lv_dup (pc := 21) hx hb dX5_emit_21 rfl ?_
  refine x_get (pc := 22) X V okX5 ht1 23 (by decide) q1544 (v := .int (I7 x0 23)) rfl dX5_emit_22 ?_
  refine lv_iconst (pc := 25) (v := (ii 1)) hx hb dX5_emit_25 (by decide) ?_
  refine lv_iadd (pc := 26) hx hb dX5_emit_26 ?_
  replace hf := nm_s hf; obtain ⟨I8, hI8, hf⟩ := hf
  refine x_puti (pc := 27) X V okX5 (by decide) ht1 23 (by decide) q1544 (Or.inl rfl) hI8 (fun _ _ _ => rfl) rfl rfl dX5_emit_27 (fun H locs V => ?_)
  cases hf
  exact x_vret (pc := 30) X V hr dX5_emit_30
theorem mX5_emit (l : Launch) (D : va_G) (dA : Nat → ClassId) (s0 : Nat) {T : xT} {N : xT} {Z : Nat} {I : xI} {L : xL} {R : xR} {x0 : Nat} {x1 : Int32} {x2 : Int32} {Io : xI} (hf : fX5_emit T N I R x0 x1 x2 = some Io) : XMet l D dA s0 yX5_emit (ws_ yX5_emit cX5_emit 3 (none)) (0) (0) [.ref x0, .int x1, .int x2] T N Z I L R none T N Z Io L R 0 0 :=
  x_start (own := RX5) rfl (by decide) (Nat.le_of_ble_eq_true rfl) (lv := [(0, .ref x0), (1, .int x1), (2, .int x2)]) rfl (fun p e s m below meth c ls X hr hini V hl => wX5_emit_e X hr hf V hl)
set_option maxHeartbeats 400000 in
set_option maxRecDepth 100000 in
theorem wX5_leaf_b19 {nf : Nat} {p : Program} {l : Launch} {e : Env} {s : State} {m : MethodId} {args : Array Value} {below : List Frame} {meth : Method} {c : Code} {D : va_G} {dA : Nat → ClassId} {s0 : Nat} {T : xT} {N : xT} {Z : Nat} {I : xI} {L : xL} {R : xR} {H : Heap} {locs : List Loc} {ls : Array Slot}  {x0 : Nat} {x2 : Int32} {x3 : Int32} {z0 : Nat} {z1 : Int32} {Io : xI} {Lo : xL} (X : Cx D dA s0 p m c cX5_leaf 4 s args RX5 meth) (hr : meth.sig.returnType = none)   (hf : fX5_leaf_b19 nf T N I L R x0 x2 x3 z0 z1 = some (Io, Lo)) (V : Iv D dA s0 s T N Z I L R H locs) (hl : lv_has ls 4 [(0, .ref x0), (2, .int x2), (3, .int x3)]) : W p l e { frames := 3, cells := 0, slots := 0, locals := 61 } s m args below meth c H locs 0 0 (MQ below (xQ D dA s0 none T N Z Io Lo R) args s 0 0 (fun q => s0 ≤ q)) (F0 m 19 ls [.int z1, .ref z0]) := by
  have hx := X.1.1
  have hb := X.1.2.1
  unfold fX5_leaf_b19 at hf
  replace hf := tg_s hf; obtain ⟨ht4, hf⟩ := hf
  replace hf := b2s hf; obtain ⟨I1, L2, hk_3, hf⟩ := hf
  refine x_callV0 (pc := 19) (As := [.int z1]) (rest := []) X V (mX5_must l D dA s0 hk_3) okX5 ht4 q1876 q1878 qs68 q129 q1879 ⟨rfl, hsX5_must⟩ ⟨Nat.le_of_ble_eq_true rfl, Nat.le_of_ble_eq_true rfl⟩ rfl hl.1 rfl (Nat.le_of_ble_eq_true rfl) dX5_leaf_19 ⟨Nat.zero_le _, Nat.zero_le _⟩ (fun H locs V => W.eq (g2 := F0 m 22 ls []) rfl ?_)
  refine lv_aload_n (pc := 22) hx hb dX5_leaf_22 rfl (lv_at hl 0 rfl) ?_
  replace hf := tg_s hf; obtain ⟨ht5, hf⟩ := hf
  refine x_get (pc := 23) X V okX5 ht5 19 (by decide) q1540 (v := .int (I1 x0 19)) rfl dX5_leaf_23 ?_
  refine lv_if_ne (pc := 26) (tgt := 45) hx hb dX5_leaf_26 (by decide) (fun c6 => ?_) (fun c6 => ?_)
  · replace hf := if_f hf c6
    cases hf
    exact x_vret (pc := 45) X V hr dX5_leaf_45
  · replace hf := if_t hf c6
    refine lv_aload_n (pc := 29) hx hb dX5_leaf_29 rfl (lv_at hl 0 rfl) ?_
    refine lv_iload_n (pc := 30) hx hb dX5_leaf_30 rfl (lv_at hl 1 rfl) ?_
    refine lv_iload_n (pc := 31) hx hb dX5_leaf_31 rfl (lv_at hl 2 rfl) ?_
    replace hf := bs hf; obtain ⟨I7, hk_8, hf⟩ := hf
    refine x_callV0 (pc := 32) (As := [.int x2, .int x3]) (rest := []) X V (mX5_emit l D dA s0 hk_8) okX5 ht5 q1918 q1920 qs78 q129 q1921 ⟨rfl, hsX5_emit⟩ ⟨Nat.le_of_ble_eq_true rfl, Nat.le_of_ble_eq_true rfl⟩ rfl hl.1 rfl (Nat.le_of_ble_eq_true rfl) dX5_leaf_32 ⟨Nat.zero_le _, Nat.zero_le _⟩ (fun H locs V => W.eq (g2 := F0 m 35 ls []) rfl ?_)
    refine lv_aload_n (pc := 35) hx hb dX5_leaf_35 rfl (lv_at hl 0 rfl) ?_
    refine lv_dup (pc := 36) hx hb dX5_leaf_36 rfl ?_
    refine x_get (pc := 37) X V okX5 ht5 26 (by decide) q1547 (v := .int (I7 x0 26)) rfl dX5_leaf_37 ?_
    refine lv_iconst (pc := 40) (v := (ii 1)) hx hb dX5_leaf_40 (by decide) ?_
    refine lv_iadd (pc := 41) hx hb dX5_leaf_41 ?_
    replace hf := nm_s hf; obtain ⟨I9, hI9, hf⟩ := hf
    refine x_puti (pc := 42) X V okX5 (by decide) ht5 26 (by decide) q1547 (Or.inl rfl) hI9 (fun _ _ _ => rfl) rfl rfl dX5_leaf_42 (fun H locs V => ?_)
    cases hf
    exact x_vret (pc := 45) X V hr dX5_leaf_45
set_option maxHeartbeats 400000 in
set_option maxRecDepth 100000 in
theorem wX5_leaf_e {nf : Nat} {p : Program} {l : Launch} {e : Env} {s : State} {m : MethodId} {args : Array Value} {below : List Frame} {meth : Method} {c : Code} {D : va_G} {dA : Nat → ClassId} {s0 : Nat} {T : xT} {N : xT} {Z : Nat} {I : xI} {L : xL} {R : xR} {H : Heap} {locs : List Loc} {ls : Array Slot} {x0 : Nat} {x1 : Int32} {x2 : Int32} {x3 : Int32} {Io : xI} {Lo : xL} (X : Cx D dA s0 p m c cX5_leaf 4 s args RX5 meth) (hr : meth.sig.returnType = none) (hf : fX5_leaf nf T N I L R x0 x1 x2 x3 = some (Io, Lo)) (V : Iv D dA s0 s T N Z I L R H locs) (hl : lv_has ls 4 [(0, .ref x0), (1, .int x1), (2, .int x2), (3, .int x3)]) : W p l e { frames := 3, cells := 0, slots := 0, locals := 61 } s m args below meth c H locs 0 0 (MQ below (xQ D dA s0 none T N Z Io Lo R) args s 0 0 (fun q => s0 ≤ q)) (F0 m 0 ls []) := by
  have hx := X.1.1
  have hb := X.1.2.1
  unfold fX5_leaf at hf
  refine lv_aload_n (pc := 0) hx hb dX5_leaf_0 rfl (lv_at hl 0 rfl) ?_
  refine lv_iload_n (pc := 1) hx hb dX5_leaf_1 rfl (lv_at hl 1 rfl) ?_
  refine lv_if_eq (pc := 2) (tgt := 18) hx hb dX5_leaf_2 (by decide) (fun c1 => ?_) (fun c1 => ?_)
  · replace hf := if_t hf c1
    refine lv_iconst (pc := 18) (v := (ii 0)) hx hb dX5_leaf_18 (by decide) ?_
    exact wX5_leaf_b19 X hr hf V (lv_sub hl [0, 2, 3] rfl)
  · replace hf := if_f hf c1
    refine lv_aload_n (pc := 5) hx hb dX5_leaf_5 rfl (lv_at hl 0 rfl) ?_
    replace hf := tg_s hf; obtain ⟨ht2, hf⟩ := hf
    refine x_get (pc := 6) X V okX5 ht2 26 (by decide) q1547 (v := .int (I x0 26)) rfl dX5_leaf_6 ?_
    refine lv_bipush (pc := 9) (v := (ii 50)) hx hb dX5_leaf_9 (by decide) ?_
    refine lv_icmp_ge (pc := 11) (tgt := 18) hx hb dX5_leaf_11 (by decide) (fun c3 => ?_) (fun c3 => ?_)
    · replace hf := if_t hf c3
      refine lv_iconst (pc := 18) (v := (ii 0)) hx hb dX5_leaf_18 (by decide) ?_
      exact wX5_leaf_b19 X hr hf V (lv_sub hl [0, 2, 3] rfl)
    · replace hf := if_f hf c3
      refine lv_iconst (pc := 14) (v := (ii 1)) hx hb dX5_leaf_14 (by decide) ?_
      refine lv_goto (pc := 15) (tgt := 19) hx hb dX5_leaf_15 (by decide) ?_
      exact wX5_leaf_b19 X hr hf V (lv_sub hl [0, 2, 3] rfl)
theorem mX5_leaf {nf : Nat} (l : Launch) (D : va_G) (dA : Nat → ClassId) (s0 : Nat) {T : xT} {N : xT} {Z : Nat} {I : xI} {L : xL} {R : xR} {x0 : Nat} {x1 : Int32} {x2 : Int32} {x3 : Int32} {Io : xI} {Lo : xL} (hf : fX5_leaf nf T N I L R x0 x1 x2 x3 = some (Io, Lo)) : XMet l D dA s0 yX5_leaf (ws_ yX5_leaf cX5_leaf 4 (none)) (3) (61) [.ref x0, .int x1, .int x2, .int x3] T N Z I L R none T N Z Io Lo R 0 0 :=
  x_start (own := RX5) rfl (by decide) (Nat.le_of_ble_eq_true rfl) (lv := [(0, .ref x0), (1, .int x1), (2, .int x2), (3, .int x3)]) rfl (fun p e s m below meth c ls X hr hini V hl => wX5_leaf_e X hr hf V hl)
set_option maxHeartbeats 400000 in
set_option maxRecDepth 100000 in
theorem wX5_number_e {nf : Nat} {p : Program} {l : Launch} {e : Env} {s : State} {m : MethodId} {args : Array Value} {below : List Frame} {meth : Method} {c : Code} {D : va_G} {dA : Nat → ClassId} {s0 : Nat} {T : xT} {N : xT} {Z : Nat} {I : xI} {L : xL} {R : xR} {H : Heap} {locs : List Loc} {ls : Array Slot} {x0 : Nat} {x1 : Int64} {x3 : Int64} {ro : Int32} {Io : xI} {Lo : xL} (X : Cx D dA s0 p m c cX5_number 6 s args RX5 meth) (hr : meth.sig.returnType = (some .int)) (hf : fX5_number nf T N I L R x0 x1 x3 = some (ro, Io, Lo)) (V : Iv D dA s0 s T N Z I L R H locs) (hl : lv_has ls 6 [(0, .ref x0), (1, .long x1), (3, .long x3)]) : W p l e { frames := 3, cells := 0, slots := 0, locals := 61 } s m args below meth c H locs 0 0 (MQ below (xQ D dA s0 (some (.int ro)) T N Z Io Lo R) args s 0 0 (fun q => s0 ≤ q)) (F0 m 0 ls []) := by
  have hx := X.1.1
  have hb := X.1.2.1
  unfold fX5_number at hf
  refine lv_aload_n (pc := 0) hx hb dX5_number_0 rfl (lv_at hl 0 rfl) ?_
  replace hf := tg_s hf; obtain ⟨ht1, hf⟩ := hf
  refine x_get (pc := 1) X V okX5 ht1 17 (by decide) q1538 (v := .long (L x0 17)) rfl dX5_number_1 ?_
  refine lv_l2i (pc := 4) hx hb dX5_number_4 rfl ?_
  replace hf := nm_s hf; obtain ⟨u2, hu2, hf⟩ := hf
  refine x_topi hu2 ?_
  refine lv_istore (pc := 5) (lv' := [(5, .int u2), (0, .ref x0), (1, .long x1), (3, .long x3)]) hx hb dX5_number_5 hl (by decide) rfl (fun ls hl => ?_)
  refine lv_aload_n (pc := 7) hx hb dX5_number_7 rfl (lv_at hl 1 rfl) ?_
  refine lv_aload_n (pc := 8) hx hb dX5_number_8 rfl (lv_at hl 1 rfl) ?_
  refine x_get (pc := 9) X V okX5 ht1 16 (by decide) q1537 (v := .int (I x0 16)) rfl dX5_number_9 ?_
  refine lv_iconst (pc := 12) (v := (ii 2)) hx hb dX5_number_12 (by decide) ?_
  refine lv_icmp_ne (pc := 13) (tgt := 32) hx hb dX5_number_13 (by decide) (fun c3 => ?_) (fun c3 => ?_)
  · replace hf := if_f hf c3
    refine lv_iconst (pc := 32) (v := (ii 0)) hx hb dX5_number_32 (by decide) ?_
    replace hf := b2s hf; obtain ⟨I4, L5, hk_6, hf⟩ := hf
    refine x_callV0 (pc := 33) (As := [.int (ii 0)]) (rest := []) X V (mX5_must l D dA s0 hk_6) okX5 ht1 q1876 q1878 qs68 q129 q1879 ⟨rfl, hsX5_must⟩ ⟨Nat.le_of_ble_eq_true rfl, Nat.le_of_ble_eq_true rfl⟩ rfl hl.1 rfl (Nat.le_of_ble_eq_true rfl) dX5_number_33 ⟨Nat.zero_le _, Nat.zero_le _⟩ (fun H locs V => W.eq (g2 := F0 m 36 ls []) rfl ?_)
    refine lv_iload (pc := 36) hx hb dX5_number_36 (lv_at hl 0 rfl) ?_
    cases hf
    exact x_iret (pc := 38) X V hr dX5_number_38
  · replace hf := if_t hf c3
    refine lv_aload_n (pc := 16) hx hb dX5_number_16 rfl (lv_at hl 1 rfl) ?_
    refine x_get (pc := 17) X V okX5 ht1 17 (by decide) q1538 (v := .long (L x0 17)) rfl dX5_number_17 ?_
    refine lv_lload_n (pc := 20) hx hb dX5_number_20 rfl (lv_at hl 2 rfl) ?_
    refine lv_lload_n (pc := 21) hx hb dX5_number_21 rfl (lv_at hl 3 rfl) ?_
    replace hf := bs hf; obtain ⟨r7, hk_8, hf⟩ := hf
    refine x_callS0 (pc := 22) (As := [.long (L x0 17), .long x1, .long x3]) (rest := [.ref x0]) X V (mX5_in l D dA s0 hk_8) q1713 q1714 q129 q1715 hsX5_in ⟨Nat.le_of_ble_eq_true rfl, Nat.le_of_ble_eq_true rfl⟩ rfl hl.1 rfl (Nat.le_of_ble_eq_true rfl) dX5_number_22 ⟨Nat.zero_le _, Nat.zero_le _⟩ (fun H locs V => W.eq (g2 := F0 m 25 ls [.int r7, .ref x0]) rfl ?_)
    refine lv_if_eq (pc := 25) (tgt := 32) hx hb dX5_number_25 (by decide) (fun c9 => ?_) (fun c9 => ?_)
    · replace hf := if_t hf c9
      refine lv_iconst (pc := 32) (v := (ii 0)) hx hb dX5_number_32 (by decide) ?_
      replace hf := b2s hf; obtain ⟨I10, L11, hk_12, hf⟩ := hf
      refine x_callV0 (pc := 33) (As := [.int (ii 0)]) (rest := []) X V (mX5_must l D dA s0 hk_12) okX5 ht1 q1876 q1878 qs68 q129 q1879 ⟨rfl, hsX5_must⟩ ⟨Nat.le_of_ble_eq_true rfl, Nat.le_of_ble_eq_true rfl⟩ rfl hl.1 rfl (Nat.le_of_ble_eq_true rfl) dX5_number_33 ⟨Nat.zero_le _, Nat.zero_le _⟩ (fun H locs V => W.eq (g2 := F0 m 36 ls []) rfl ?_)
      refine lv_iload (pc := 36) hx hb dX5_number_36 (lv_at hl 0 rfl) ?_
      cases hf
      exact x_iret (pc := 38) X V hr dX5_number_38
    · replace hf := if_f hf c9
      refine lv_iconst (pc := 28) (v := (ii 1)) hx hb dX5_number_28 (by decide) ?_
      refine lv_goto (pc := 29) (tgt := 33) hx hb dX5_number_29 (by decide) ?_
      replace hf := b2s hf; obtain ⟨I13, L14, hk_15, hf⟩ := hf
      refine x_callV0 (pc := 33) (As := [.int (ii 1)]) (rest := []) X V (mX5_must l D dA s0 hk_15) okX5 ht1 q1876 q1878 qs68 q129 q1879 ⟨rfl, hsX5_must⟩ ⟨Nat.le_of_ble_eq_true rfl, Nat.le_of_ble_eq_true rfl⟩ rfl hl.1 rfl (Nat.le_of_ble_eq_true rfl) dX5_number_33 ⟨Nat.zero_le _, Nat.zero_le _⟩ (fun H locs V => W.eq (g2 := F0 m 36 ls []) rfl ?_)
      refine lv_iload (pc := 36) hx hb dX5_number_36 (lv_at hl 0 rfl) ?_
      cases hf
      exact x_iret (pc := 38) X V hr dX5_number_38
theorem mX5_number {nf : Nat} (l : Launch) (D : va_G) (dA : Nat → ClassId) (s0 : Nat) {T : xT} {N : xT} {Z : Nat} {I : xI} {L : xL} {R : xR} {x0 : Nat} {x1 : Int64} {x3 : Int64} {ro : Int32} {Io : xI} {Lo : xL} (hf : fX5_number nf T N I L R x0 x1 x3 = some (ro, Io, Lo)) : XMet l D dA s0 yX5_number (ws_ yX5_number cX5_number 6 ((some .int))) (3) (61) [.ref x0, .long x1, .long x3] T N Z I L R (some (.int ro)) T N Z Io Lo R 0 0 :=
  x_start (own := RX5) rfl (by decide) (Nat.le_of_ble_eq_true rfl) (lv := [(0, .ref x0), (1, .long x1), (3, .long x3)]) rfl (fun p e s m below meth c ls X hr hini V hl => wX5_number_e X hr hf V hl)
set_option maxHeartbeats 400000 in
set_option maxRecDepth 100000 in
theorem wX5_readPart_b99 {nf : Nat} {p : Program} {l : Launch} {e : Env} {s : State} {m : MethodId} {args : Array Value} {below : List Frame} {meth : Method} {c : Code} {D : va_G} {dA : Nat → ClassId} {s0 : Nat} {T : xT} {N : xT} {Z : Nat} {I : xI} {L : xL} {R : xR} {H : Heap} {locs : List Loc} {ls : Array Slot}  {x0 : Nat} {x1 : Int32} {z0 : Nat} {z1 : Int32} {z2 : Int32} {z3 : Int32} {ro : Int32} {Io : xI} {Lo : xL} (X : Cx D dA s0 p m c cX5_readPart 4 s args RX5 meth) (hr : meth.sig.returnType = (some .int))   (hf : fX5_readPart_b99 nf T N I L R x0 x1 z0 z1 z2 z3 = some (ro, Io, Lo)) (V : Iv D dA s0 s T N Z I L R H locs) (hl : lv_has ls 4 [(0, .ref x0), (1, .int x1)]) : W p l e { frames := 4, cells := 0, slots := 0, locals := 86 } s m args below meth c H locs 0 0 (MQ below (xQ D dA s0 (some (.int ro)) T N Z Io Lo R) args s 0 0 (fun q => s0 ≤ q)) (F0 m 99 ls [.int z3, .int z2, .int z1, .ref z0]) := by
  have hx := X.1.1
  have hb := X.1.2.1
  unfold fX5_readPart_b99 at hf
  replace hf := tg_s hf; obtain ⟨ht4, hf⟩ := hf
  replace hf := b2s hf; obtain ⟨I1, L2, hk_3, hf⟩ := hf
  refine x_callV0 (pc := 99) (As := [.int z1, .int z2, .int z3]) (rest := []) X V (mX5_leaf l D dA s0 hk_3) okX5 ht4 q1914 q1916 qs77 q129 q1917 ⟨rfl, hsX5_leaf⟩ ⟨Nat.le_of_ble_eq_true rfl, Nat.le_of_ble_eq_true rfl⟩ rfl hl.1 rfl (Nat.le_of_ble_eq_true rfl) dX5_readPart_99 ⟨Nat.zero_le _, Nat.zero_le _⟩ (fun H locs V => W.eq (g2 := F0 m 102 ls []) rfl ?_)
  refine lv_aload_n (pc := 102) hx hb dX5_readPart_102 rfl (lv_at hl 0 rfl) ?_
  replace hf := tg_s hf; obtain ⟨ht5, hf⟩ := hf
  refine x_get (pc := 103) X V okX5 ht5 20 (by decide) q1541 (v := .int (I1 x0 20)) rfl dX5_readPart_103 ?_
  refine lv_if_eq (pc := 106) (tgt := 155) hx hb dX5_readPart_106 (by decide) (fun c6 => ?_) (fun c6 => ?_)
  · replace hf := if_t hf c6
    refine lv_iconst (pc := 155) (v := (ii 3)) hx hb dX5_readPart_155 (by decide) ?_
    cases hf
    exact x_iret (pc := 156) X V hr dX5_readPart_156
  · replace hf := if_f hf c6
    refine lv_iload_n (pc := 109) hx hb dX5_readPart_109 rfl (lv_at hl 1 rfl) ?_
    refine lv_bipush (pc := 110) (v := (ii 6)) hx hb dX5_readPart_110 (by decide) ?_
    refine lv_icmp_lt (pc := 112) (tgt := 155) hx hb dX5_readPart_112 (by decide) (fun c7 => ?_) (fun c7 => ?_)
    · replace hf := if_t hf c7
      refine lv_iconst (pc := 155) (v := (ii 3)) hx hb dX5_readPart_155 (by decide) ?_
      cases hf
      exact x_iret (pc := 156) X V hr dX5_readPart_156
    · replace hf := if_f hf c7
      refine lv_aload_n (pc := 115) hx hb dX5_readPart_115 rfl (lv_at hl 0 rfl) ?_
      refine x_get (pc := 116) X V okX5 ht5 19 (by decide) q1540 (v := .int (I1 x0 19)) rfl dX5_readPart_116 ?_
      refine lv_if_ne (pc := 119) (tgt := 155) hx hb dX5_readPart_119 (by decide) (fun c8 => ?_) (fun c8 => ?_)
      · replace hf := if_f hf c8
        refine lv_iconst (pc := 155) (v := (ii 3)) hx hb dX5_readPart_155 (by decide) ?_
        cases hf
        exact x_iret (pc := 156) X V hr dX5_readPart_156
      · replace hf := if_t hf c8
        refine lv_aload_n (pc := 122) hx hb dX5_readPart_122 rfl (lv_at hl 0 rfl) ?_
        refine x_get (pc := 123) X V okX5 ht5 23 (by decide) q1544 (v := .int (I1 x0 23)) rfl dX5_readPart_123 ?_
        refine lv_iconst (pc := 126) (v := (ii 1)) hx hb dX5_readPart_126 (by decide) ?_
        refine lv_isub (pc := 127) hx hb dX5_readPart_127 ?_
        replace hf := nm_s hf; obtain ⟨u9, hu9, hf⟩ := hf
        refine x_topi hu9 ?_
        refine lv_istore_n (pc := 128) (lv' := [(3, .int u9), (0, .ref x0), (1, .int x1)]) hx hb dX5_readPart_128 rfl hl (by decide) rfl (fun ls hl => ?_)
        refine lv_aload_n (pc := 129) hx hb dX5_readPart_129 rfl (lv_at hl 1 rfl) ?_
        replace hf := bs hf; obtain ⟨a10, ha10, hf⟩ := hf
        refine x_get (pc := 130) X V okX5 ht5 25 (by decide) q1546 (v := va_rf (R x0 25)) rfl dX5_readPart_130 ?_
        refine x_topr ha10 ?_
        refine lv_iload_n (pc := 133) hx hb dX5_readPart_133 rfl (lv_at hl 0 rfl) ?_
        refine lv_aload_n (pc := 134) hx hb dX5_readPart_134 rfl (lv_at hl 1 rfl) ?_
        refine lv_lconst (pc := 135) (v := (jj 0)) hx hb dX5_readPart_135 (by decide) ?_
        refine lv_iload_n (pc := 136) hx hb dX5_readPart_136 rfl (lv_at hl 2 rfl) ?_
        refine lv_bipush (pc := 137) (v := (ii 6)) hx hb dX5_readPart_137 (by decide) ?_
        refine lv_icmp_ne (pc := 139) (tgt := 148) hx hb dX5_readPart_139 (by decide) (fun c11 => ?_) (fun c11 => ?_)
        · replace hf := if_f hf c11
          refine lv_ldc2 (pc := 148) (v := (jj 9)) hx hb X.1.2.2.2.1 (X.1.2.2.2.2 _ q1736) dX5_readPart_148 ?_
          replace hf := b3s hf; obtain ⟨r12, I13, L14, hk_15, hf⟩ := hf
          refine x_callV0 (pc := 151) (As := [.long (jj 0), .long (jj 9)]) (rest := [.int u9, .ref a10]) X V (mX5_number l D dA s0 hk_15) okX5 ht5 q1923 q1925 qs79 q129 q1926 ⟨rfl, hsX5_number⟩ ⟨Nat.le_of_ble_eq_true rfl, Nat.le_of_ble_eq_true rfl⟩ rfl hl.1 rfl (Nat.le_of_ble_eq_true rfl) dX5_readPart_151 ⟨Nat.zero_le _, Nat.zero_le _⟩ (fun H locs V => W.eq (g2 := F0 m 154 ls [.int r12, .int u9, .ref a10]) rfl ?_)
          replace hf := rA_s hf; obtain ⟨j16, hjj16, htj16, hij16, hf⟩ := hf
          replace hf := nm_s hf; obtain ⟨I17, hI17, hf⟩ := hf
          refine x_iast (pc := 154) X V htj16 hij16 hjj16 hI17 dX5_readPart_154 (fun H locs V => ?_)
          refine lv_iconst (pc := 155) (v := (ii 3)) hx hb dX5_readPart_155 (by decide) ?_
          cases hf
          exact x_iret (pc := 156) X V hr dX5_readPart_156
        · replace hf := if_t hf c11
          refine lv_ldc2 (pc := 142) (v := (jj 3)) hx hb X.1.2.2.2.1 (X.1.2.2.2.2 _ q1922) dX5_readPart_142 ?_
          refine lv_goto (pc := 145) (tgt := 151) hx hb dX5_readPart_145 (by decide) ?_
          replace hf := b3s hf; obtain ⟨r18, I19, L20, hk_21, hf⟩ := hf
          refine x_callV0 (pc := 151) (As := [.long (jj 0), .long (jj 3)]) (rest := [.int u9, .ref a10]) X V (mX5_number l D dA s0 hk_21) okX5 ht5 q1923 q1925 qs79 q129 q1926 ⟨rfl, hsX5_number⟩ ⟨Nat.le_of_ble_eq_true rfl, Nat.le_of_ble_eq_true rfl⟩ rfl hl.1 rfl (Nat.le_of_ble_eq_true rfl) dX5_readPart_151 ⟨Nat.zero_le _, Nat.zero_le _⟩ (fun H locs V => W.eq (g2 := F0 m 154 ls [.int r18, .int u9, .ref a10]) rfl ?_)
          replace hf := rA_s hf; obtain ⟨j22, hjj22, htj22, hij22, hf⟩ := hf
          replace hf := nm_s hf; obtain ⟨I23, hI23, hf⟩ := hf
          refine x_iast (pc := 154) X V htj22 hij22 hjj22 hI23 dX5_readPart_154 (fun H locs V => ?_)
          refine lv_iconst (pc := 155) (v := (ii 3)) hx hb dX5_readPart_155 (by decide) ?_
          cases hf
          exact x_iret (pc := 156) X V hr dX5_readPart_156
set_option maxHeartbeats 400000 in
set_option maxRecDepth 100000 in
theorem wX5_readPart_b86 {nf : Nat} {p : Program} {l : Launch} {e : Env} {s : State} {m : MethodId} {args : Array Value} {below : List Frame} {meth : Method} {c : Code} {D : va_G} {dA : Nat → ClassId} {s0 : Nat} {T : xT} {N : xT} {Z : Nat} {I : xI} {L : xL} {R : xR} {H : Heap} {locs : List Loc} {ls : Array Slot}  {x0 : Nat} {x1 : Int32} {x2 : Int32} {z0 : Nat} {z1 : Int32} {z2 : Int32} {ro : Int32} {Io : xI} {Lo : xL} (X : Cx D dA s0 p m c cX5_readPart 4 s args RX5 meth) (hr : meth.sig.returnType = (some .int))   (hf : fX5_readPart_b86 nf T N I L R x0 x1 x2 z0 z1 z2 = some (ro, Io, Lo)) (V : Iv D dA s0 s T N Z I L R H locs) (hl : lv_has ls 4 [(0, .ref x0), (1, .int x1), (2, .int x2)]) : W p l e { frames := 4, cells := 0, slots := 0, locals := 86 } s m args below meth c H locs 0 0 (MQ below (xQ D dA s0 (some (.int ro)) T N Z Io Lo R) args s 0 0 (fun q => s0 ≤ q)) (F0 m 86 ls [.int z2, .int z1, .ref z0]) := by
  have hx := X.1.1
  have hb := X.1.2.1
  unfold fX5_readPart_b86 at hf
  refine lv_iload_n (pc := 86) hx hb dX5_readPart_86 rfl (lv_at hl 2 rfl) ?_
  refine lv_if_eq (pc := 87) (tgt := 98) hx hb dX5_readPart_87 (by decide) (fun c1 => ?_) (fun c1 => ?_)
  · replace hf := if_t hf c1
    refine lv_iconst (pc := 98) (v := (ii 0)) hx hb dX5_readPart_98 (by decide) ?_
    exact wX5_readPart_b99 X hr hf V (lv_sub hl [0, 1] rfl)
  · replace hf := if_f hf c1
    refine lv_aload_n (pc := 90) hx hb dX5_readPart_90 rfl (lv_at hl 0 rfl) ?_
    replace hf := tg_s hf; obtain ⟨ht2, hf⟩ := hf
    refine x_get (pc := 91) X V okX5 ht2 17 (by decide) q1538 (v := .long (L x0 17)) rfl dX5_readPart_91 ?_
    refine lv_l2i (pc := 94) hx hb dX5_readPart_94 rfl ?_
    refine lv_goto (pc := 95) (tgt := 99) hx hb dX5_readPart_95 (by decide) ?_
    exact wX5_readPart_b99 X hr hf V (lv_sub hl [0, 1] rfl)
set_option maxHeartbeats 400000 in
set_option maxRecDepth 100000 in
theorem wX5_readPart_b76 {nf : Nat} {p : Program} {l : Launch} {e : Env} {s : State} {m : MethodId} {args : Array Value} {below : List Frame} {meth : Method} {c : Code} {D : va_G} {dA : Nat → ClassId} {s0 : Nat} {T : xT} {N : xT} {Z : Nat} {I : xI} {L : xL} {R : xR} {H : Heap} {locs : List Loc} {ls : Array Slot}  {x0 : Nat} {x1 : Int32} {x2 : Int32} {z0 : Nat} {z1 : Int32} {ro : Int32} {Io : xI} {Lo : xL} (X : Cx D dA s0 p m c cX5_readPart 4 s args RX5 meth) (hr : meth.sig.returnType = (some .int))   (hf : fX5_readPart_b76 nf T N I L R x0 x1 x2 z0 z1 = some (ro, Io, Lo)) (V : Iv D dA s0 s T N Z I L R H locs) (hl : lv_has ls 4 [(0, .ref x0), (1, .int x1), (2, .int x2)]) : W p l e { frames := 4, cells := 0, slots := 0, locals := 86 } s m args below meth c H locs 0 0 (MQ below (xQ D dA s0 (some (.int ro)) T N Z Io Lo R) args s 0 0 (fun q => s0 ≤ q)) (F0 m 76 ls [.int z1, .ref z0]) := by
  have hx := X.1.1
  have hb := X.1.2.1
  unfold fX5_readPart_b76 at hf
  refine lv_iload_n (pc := 76) hx hb dX5_readPart_76 rfl (lv_at hl 1 rfl) ?_
  refine lv_iconst (pc := 77) (v := (-1 : Int32)) hx hb dX5_readPart_77 (by decide) ?_
  refine lv_icmp_ne (pc := 78) (tgt := 85) hx hb dX5_readPart_78 (by decide) (fun c1 => ?_) (fun c1 => ?_)
  · replace hf := if_f hf c1
    refine lv_iload_n (pc := 85) hx hb dX5_readPart_85 rfl (lv_at hl 1 rfl) ?_
    exact wX5_readPart_b86 X hr hf V (lv_sub hl [0, 1, 2] rfl)
  · replace hf := if_t hf c1
    refine lv_iconst (pc := 81) (v := (ii 0)) hx hb dX5_readPart_81 (by decide) ?_
    refine lv_goto (pc := 82) (tgt := 86) hx hb dX5_readPart_82 (by decide) ?_
    exact wX5_readPart_b86 X hr hf V (lv_sub hl [0, 1, 2] rfl)
set_option maxHeartbeats 400000 in
set_option maxRecDepth 100000 in
theorem wX5_readPart_b60 {nf : Nat} {p : Program} {l : Launch} {e : Env} {s : State} {m : MethodId} {args : Array Value} {below : List Frame} {meth : Method} {c : Code} {D : va_G} {dA : Nat → ClassId} {s0 : Nat} {T : xT} {N : xT} {Z : Nat} {I : xI} {L : xL} {R : xR} {H : Heap} {locs : List Loc} {ls : Array Slot}  {x0 : Nat} {x1 : Int32} {z0 : Int32} {ro : Int32} {Io : xI} {Lo : xL} (X : Cx D dA s0 p m c cX5_readPart 4 s args RX5 meth) (hr : meth.sig.returnType = (some .int))   (hf : fX5_readPart_b60 nf T N I L R x0 x1 z0 = some (ro, Io, Lo)) (V : Iv D dA s0 s T N Z I L R H locs) (hl : lv_has ls 4 [(0, .ref x0), (1, .int x1)]) : W p l e { frames := 4, cells := 0, slots := 0, locals := 86 } s m args below meth c H locs 0 0 (MQ below (xQ D dA s0 (some (.int ro)) T N Z Io Lo R) args s 0 0 (fun q => s0 ≤ q)) (F0 m 60 ls [.int z0]) := by
  have hx := X.1.1
  have hb := X.1.2.1
  unfold fX5_readPart_b60 at hf
  refine lv_istore_n (pc := 60) (lv' := [(2, .int z0), (0, .ref x0), (1, .int x1)]) hx hb dX5_readPart_60 rfl hl (by decide) rfl (fun ls hl => ?_)
  refine lv_aload_n (pc := 61) hx hb dX5_readPart_61 rfl (lv_at hl 1 rfl) ?_
  refine lv_iload_n (pc := 62) hx hb dX5_readPart_62 rfl (lv_at hl 2 rfl) ?_
  refine lv_iconst (pc := 63) (v := (-1 : Int32)) hx hb dX5_readPart_63 (by decide) ?_
  refine lv_icmp_ne (pc := 64) (tgt := 71) hx hb dX5_readPart_64 (by decide) (fun c1 => ?_) (fun c1 => ?_)
  · replace hf := if_f hf c1
    refine lv_iconst (pc := 71) (v := (ii 1)) hx hb dX5_readPart_71 (by decide) ?_
    refine lv_goto (pc := 72) (tgt := 76) hx hb dX5_readPart_72 (by decide) ?_
    exact wX5_readPart_b76 X hr hf V (lv_sub hl [1, 2, 0] rfl)
  · replace hf := if_t hf c1
    refine lv_iload_n (pc := 67) hx hb dX5_readPart_67 rfl (lv_at hl 0 rfl) ?_
    refine lv_if_eq (pc := 68) (tgt := 75) hx hb dX5_readPart_68 (by decide) (fun c2 => ?_) (fun c2 => ?_)
    · replace hf := if_t hf c2
      refine lv_iconst (pc := 75) (v := (ii 0)) hx hb dX5_readPart_75 (by decide) ?_
      exact wX5_readPart_b76 X hr hf V (lv_sub hl [1, 2, 0] rfl)
    · replace hf := if_f hf c2
      refine lv_iconst (pc := 71) (v := (ii 1)) hx hb dX5_readPart_71 (by decide) ?_
      refine lv_goto (pc := 72) (tgt := 76) hx hb dX5_readPart_72 (by decide) ?_
      exact wX5_readPart_b76 X hr hf V (lv_sub hl [1, 2, 0] rfl)
set_option maxHeartbeats 400000 in
set_option maxRecDepth 100000 in
theorem wX5_readPart_b35 {nf : Nat} {p : Program} {l : Launch} {e : Env} {s : State} {m : MethodId} {args : Array Value} {below : List Frame} {meth : Method} {c : Code} {D : va_G} {dA : Nat → ClassId} {s0 : Nat} {T : xT} {N : xT} {Z : Nat} {I : xI} {L : xL} {R : xR} {H : Heap} {locs : List Loc} {ls : Array Slot}  {x0 : Nat} {z0 : Int32} {ro : Int32} {Io : xI} {Lo : xL} (X : Cx D dA s0 p m c cX5_readPart 4 s args RX5 meth) (hr : meth.sig.returnType = (some .int))   (hf : fX5_readPart_b35 nf T N I L R x0 z0 = some (ro, Io, Lo)) (V : Iv D dA s0 s T N Z I L R H locs) (hl : lv_has ls 4 [(0, .ref x0)]) : W p l e { frames := 4, cells := 0, slots := 0, locals := 86 } s m args below meth c H locs 0 0 (MQ below (xQ D dA s0 (some (.int ro)) T N Z Io Lo R) args s 0 0 (fun q => s0 ≤ q)) (F0 m 35 ls [.int z0]) := by
  have hx := X.1.1
  have hb := X.1.2.1
  unfold fX5_readPart_b35 at hf
  refine lv_istore_n (pc := 35) (lv' := [(1, .int z0), (0, .ref x0)]) hx hb dX5_readPart_35 rfl hl (by decide) rfl (fun ls hl => ?_)
  refine lv_aload_n (pc := 36) hx hb dX5_readPart_36 rfl (lv_at hl 1 rfl) ?_
  replace hf := tg_s hf; obtain ⟨ht1, hf⟩ := hf
  refine x_get (pc := 37) X V okX5 ht1 16 (by decide) q1537 (v := .int (I x0 16)) rfl dX5_readPart_37 ?_
  refine lv_iconst (pc := 40) (v := (ii 2)) hx hb dX5_readPart_40 (by decide) ?_
  refine lv_icmp_ne (pc := 41) (tgt := 59) hx hb dX5_readPart_41 (by decide) (fun c2 => ?_) (fun c2 => ?_)
  · replace hf := if_f hf c2
    refine lv_iconst (pc := 59) (v := (ii 0)) hx hb dX5_readPart_59 (by decide) ?_
    exact wX5_readPart_b60 X hr hf V (lv_sub hl [1, 0] rfl)
  · replace hf := if_t hf c2
    refine lv_aload_n (pc := 44) hx hb dX5_readPart_44 rfl (lv_at hl 1 rfl) ?_
    refine x_get (pc := 45) X V okX5 ht1 17 (by decide) q1538 (v := .long (L x0 17)) rfl dX5_readPart_45 ?_
    refine lv_ldc2 (pc := 48) (v := (jj 1000)) hx hb X.1.2.2.2.1 (X.1.2.2.2.2 _ q1913) dX5_readPart_48 ?_
    refine lc_gt (pc := 51) (tgt := 59) hx hb dX5_readPart_51 dX5_readPart_52 (by decide) (fun c3 => ?_) (fun c3 => ?_)
    · replace hf := if_t hf c3
      refine lv_iconst (pc := 59) (v := (ii 0)) hx hb dX5_readPart_59 (by decide) ?_
      exact wX5_readPart_b60 X hr hf V (lv_sub hl [1, 0] rfl)
    · replace hf := if_f hf c3
      refine lv_iconst (pc := 55) (v := (ii 1)) hx hb dX5_readPart_55 (by decide) ?_
      refine lv_goto (pc := 56) (tgt := 60) hx hb dX5_readPart_56 (by decide) ?_
      exact wX5_readPart_b60 X hr hf V (lv_sub hl [1, 0] rfl)
set_option maxHeartbeats 400000 in
set_option maxRecDepth 100000 in
theorem wX5_readPart_e {nf : Nat} {p : Program} {l : Launch} {e : Env} {s : State} {m : MethodId} {args : Array Value} {below : List Frame} {meth : Method} {c : Code} {D : va_G} {dA : Nat → ClassId} {s0 : Nat} {T : xT} {N : xT} {Z : Nat} {I : xI} {L : xL} {R : xR} {H : Heap} {locs : List Loc} {ls : Array Slot} {x0 : Nat} {ro : Int32} {Io : xI} {Lo : xL} (X : Cx D dA s0 p m c cX5_readPart 4 s args RX5 meth) (hr : meth.sig.returnType = (some .int)) (hf : fX5_readPart nf T N I L R x0 = some (ro, Io, Lo)) (V : Iv D dA s0 s T N Z I L R H locs) (hl : lv_has ls 4 [(0, .ref x0)]) : W p l e { frames := 4, cells := 0, slots := 0, locals := 86 } s m args below meth c H locs 0 0 (MQ below (xQ D dA s0 (some (.int ro)) T N Z Io Lo R) args s 0 0 (fun q => s0 ≤ q)) (F0 m 0 ls []) := by
  have hx := X.1.1
  have hb := X.1.2.1
  unfold fX5_readPart at hf
  refine lv_aload_n (pc := 0) hx hb dX5_readPart_0 rfl (lv_at hl 0 rfl) ?_
  refine lv_bipush (pc := 1) (v := (ii 91)) hx hb dX5_readPart_1 (by decide) ?_
  replace hf := tg_s hf; obtain ⟨ht3, hf⟩ := hf
  replace hf := bs hf; obtain ⟨r1, hk_2, hf⟩ := hf
  refine x_callV0 (pc := 3) (As := [.int (ii 91)]) (rest := []) X V (mX5_isSign l D dA s0 hk_2) okX5 ht3 q1893 q1895 qs72 q129 q1896 ⟨rfl, hsX5_isSign⟩ ⟨Nat.le_of_ble_eq_true rfl, Nat.le_of_ble_eq_true rfl⟩ rfl hl.1 rfl (Nat.le_of_ble_eq_true rfl) dX5_readPart_3 ⟨Nat.zero_le _, Nat.zero_le _⟩ (fun H locs V => W.eq (g2 := F0 m 6 ls [.int r1]) rfl ?_)
  refine lv_if_eq (pc := 6) (tgt := 17) hx hb dX5_readPart_6 (by decide) (fun c4 => ?_) (fun c4 => ?_)
  · replace hf := if_t hf c4
    refine lv_aload_n (pc := 17) hx hb dX5_readPart_17 rfl (lv_at hl 0 rfl) ?_
    refine x_get (pc := 18) X V okX5 ht3 20 (by decide) q1541 (v := .int (I x0 20)) rfl dX5_readPart_18 ?_
    refine lv_if_eq (pc := 21) (tgt := 31) hx hb dX5_readPart_21 (by decide) (fun c5 => ?_) (fun c5 => ?_)
    · replace hf := if_t hf c5
      refine lv_aload_n (pc := 31) hx hb dX5_readPart_31 rfl (lv_at hl 0 rfl) ?_
      replace hf := bs hf; obtain ⟨r6, hk_7, hf⟩ := hf
      refine x_callV0 (pc := 32) (As := []) (rest := []) X V (mX5_partAt l D dA s0 hk_7) okX5 ht3 q1909 q1911 qs76 q129 q1912 ⟨rfl, hsX5_partAt⟩ ⟨Nat.le_of_ble_eq_true rfl, Nat.le_of_ble_eq_true rfl⟩ rfl hl.1 rfl (Nat.le_of_ble_eq_true rfl) dX5_readPart_32 ⟨Nat.zero_le _, Nat.zero_le _⟩ (fun H locs V => W.eq (g2 := F0 m 35 ls [.int r6]) rfl ?_)
      exact wX5_readPart_b35 X hr hf V (lv_sub hl [0] rfl)
    · replace hf := if_f hf c5
      refine lv_aload_n (pc := 24) hx hb dX5_readPart_24 rfl (lv_at hl 0 rfl) ?_
      replace hf := bs hf; obtain ⟨r8, hk_9, hf⟩ := hf
      refine x_callV0 (pc := 25) (As := []) (rest := []) X V (mX5_orderPartAt l D dA s0 hk_9) okX5 ht3 q1905 q1907 qs75 q129 q1908 ⟨rfl, hsX5_orderPartAt⟩ ⟨Nat.le_of_ble_eq_true rfl, Nat.le_of_ble_eq_true rfl⟩ rfl hl.1 rfl (Nat.le_of_ble_eq_true rfl) dX5_readPart_25 ⟨Nat.zero_le _, Nat.zero_le _⟩ (fun H locs V => W.eq (g2 := F0 m 28 ls [.int r8]) rfl ?_)
      refine lv_goto (pc := 28) (tgt := 35) hx hb dX5_readPart_28 (by decide) ?_
      exact wX5_readPart_b35 X hr hf V (lv_sub hl [0] rfl)
  · replace hf := if_f hf c4
    refine lv_aload_n (pc := 9) hx hb dX5_readPart_9 rfl (lv_at hl 0 rfl) ?_
    refine lv_bipush (pc := 10) (v := (ii 32)) hx hb dX5_readPart_10 (by decide) ?_
    replace hf := b2s hf; obtain ⟨I10, L11, hk_12, hf⟩ := hf
    refine x_callV0 (pc := 12) (As := [.int (ii 32)]) (rest := []) X V (mX5_openBracket l D dA s0 hk_12) okX5 ht3 q1897 q1899 qs73 q129 q1900 ⟨rfl, hsX5_openBracket⟩ ⟨Nat.le_of_ble_eq_true rfl, Nat.le_of_ble_eq_true rfl⟩ rfl hl.1 rfl (Nat.le_of_ble_eq_true rfl) dX5_readPart_12 ⟨Nat.zero_le _, Nat.zero_le _⟩ (fun H locs V => W.eq (g2 := F0 m 15 ls []) rfl ?_)
    refine lv_iconst (pc := 15) (v := (ii 1)) hx hb dX5_readPart_15 (by decide) ?_
    cases hf
    exact x_iret (pc := 16) X V hr dX5_readPart_16
theorem mX5_readPart {nf : Nat} (l : Launch) (D : va_G) (dA : Nat → ClassId) (s0 : Nat) {T : xT} {N : xT} {Z : Nat} {I : xI} {L : xL} {R : xR} {x0 : Nat} {ro : Int32} {Io : xI} {Lo : xL} (hf : fX5_readPart nf T N I L R x0 = some (ro, Io, Lo)) : XMet l D dA s0 yX5_readPart (ws_ yX5_readPart cX5_readPart 4 ((some .int))) (4) (86) [.ref x0] T N Z I L R (some (.int ro)) T N Z Io Lo R 0 0 :=
  x_start (own := RX5) rfl (by decide) (Nat.le_of_ble_eq_true rfl) (lv := [(0, .ref x0)]) rfl (fun p e s m below meth c ls X hr hini V hl => wX5_readPart_e X hr hf V hl)
set_option maxHeartbeats 400000 in
set_option maxRecDepth 100000 in
theorem wX5_readPlain_e {nf : Nat} {p : Program} {l : Launch} {e : Env} {s : State} {m : MethodId} {args : Array Value} {below : List Frame} {meth : Method} {c : Code} {D : va_G} {dA : Nat → ClassId} {s0 : Nat} {T : xT} {N : xT} {Z : Nat} {I : xI} {L : xL} {R : xR} {H : Heap} {locs : List Loc} {ls : Array Slot} {x0 : Nat} {ro : Int32} {Io : xI} {Lo : xL} (X : Cx D dA s0 p m c cX5_readPlain 1 s args RX5 meth) (hr : meth.sig.returnType = (some .int)) (hf : fX5_readPlain nf T N I L R x0 = some (ro, Io, Lo)) (V : Iv D dA s0 s T N Z I L R H locs) (hl : lv_has ls 1 [(0, .ref x0)]) : W p l e { frames := 5, cells := 0, slots := 0, locals := 109 } s m args below meth c H locs 0 0 (MQ below (xQ D dA s0 (some (.int ro)) T N Z Io Lo R) args s 0 0 (fun q => s0 ≤ q)) (F0 m 0 ls []) := by
  have hx := X.1.1
  have hb := X.1.2.1
  unfold fX5_readPlain at hf
  refine lv_aload_n (pc := 0) hx hb dX5_readPlain_0 rfl (lv_at hl 0 rfl) ?_
  refine lv_ldc2 (pc := 1) (v := (jj 14836)) hx hb X.1.2.2.2.1 (X.1.2.2.2.2 _ q1888) dX5_readPlain_1 ?_
  replace hf := tg_s hf; obtain ⟨ht3, hf⟩ := hf
  replace hf := bs hf; obtain ⟨r1, hk_2, hf⟩ := hf
  refine x_callV0 (pc := 4) (As := [.long (jj 14836)]) (rest := []) X V (mX5_isWord l D dA s0 hk_2) okX5 ht3 q1872 q1874 qs67 q129 q1875 ⟨rfl, hsX5_isWord⟩ ⟨Nat.le_of_ble_eq_true rfl, Nat.le_of_ble_eq_true rfl⟩ rfl hl.1 rfl (Nat.le_of_ble_eq_true rfl) dX5_readPlain_4 ⟨Nat.zero_le _, Nat.zero_le _⟩ (fun H locs V => W.eq (g2 := F0 m 7 ls [.int r1]) rfl ?_)
  refine lv_if_eq (pc := 7) (tgt := 23) hx hb dX5_readPlain_7 (by decide) (fun c4 => ?_) (fun c4 => ?_)
  · replace hf := if_t hf c4
    refine lv_aload_n (pc := 23) hx hb dX5_readPlain_23 rfl (lv_at hl 0 rfl) ?_
    refine lv_bipush (pc := 24) (v := (ii 40)) hx hb dX5_readPlain_24 (by decide) ?_
    replace hf := bs hf; obtain ⟨r5, hk_6, hf⟩ := hf
    refine x_callV0 (pc := 26) (As := [.int (ii 40)]) (rest := []) X V (mX5_isSign l D dA s0 hk_6) okX5 ht3 q1893 q1895 qs72 q129 q1896 ⟨rfl, hsX5_isSign⟩ ⟨Nat.le_of_ble_eq_true rfl, Nat.le_of_ble_eq_true rfl⟩ rfl hl.1 rfl (Nat.le_of_ble_eq_true rfl) dX5_readPlain_26 ⟨Nat.zero_le _, Nat.zero_le _⟩ (fun H locs V => W.eq (g2 := F0 m 29 ls [.int r5]) rfl ?_)
    refine lv_if_eq (pc := 29) (tgt := 40) hx hb dX5_readPlain_29 (by decide) (fun c7 => ?_) (fun c7 => ?_)
    · replace hf := if_t hf c7
      refine lv_aload_n (pc := 40) hx hb dX5_readPlain_40 rfl (lv_at hl 0 rfl) ?_
      replace hf := b3s hf; obtain ⟨r8, I9, L10, hk_11, hf⟩ := hf
      refine x_callV0 (pc := 41) (As := []) (rest := []) X V (mX5_readPart l D dA s0 hk_11) okX5 ht3 q1901 q1903 qs74 q129 q1904 ⟨rfl, hsX5_readPart⟩ ⟨Nat.le_of_ble_eq_true rfl, Nat.le_of_ble_eq_true rfl⟩ rfl hl.1 rfl (Nat.le_of_ble_eq_true rfl) dX5_readPlain_41 ⟨Nat.zero_le _, Nat.zero_le _⟩ (fun H locs V => W.eq (g2 := F0 m 44 ls [.int r8]) rfl ?_)
      cases hf
      exact x_iret (pc := 44) X V hr dX5_readPlain_44
    · replace hf := if_f hf c7
      refine lv_aload_n (pc := 32) hx hb dX5_readPlain_32 rfl (lv_at hl 0 rfl) ?_
      refine lv_bipush (pc := 33) (v := (ii 31)) hx hb dX5_readPlain_33 (by decide) ?_
      replace hf := b2s hf; obtain ⟨I12, L13, hk_14, hf⟩ := hf
      refine x_callV0 (pc := 35) (As := [.int (ii 31)]) (rest := []) X V (mX5_openBracket l D dA s0 hk_14) okX5 ht3 q1897 q1899 qs73 q129 q1900 ⟨rfl, hsX5_openBracket⟩ ⟨Nat.le_of_ble_eq_true rfl, Nat.le_of_ble_eq_true rfl⟩ rfl hl.1 rfl (Nat.le_of_ble_eq_true rfl) dX5_readPlain_35 ⟨Nat.zero_le _, Nat.zero_le _⟩ (fun H locs V => W.eq (g2 := F0 m 38 ls []) rfl ?_)
      refine lv_iconst (pc := 38) (v := (ii 0)) hx hb dX5_readPlain_38 (by decide) ?_
      cases hf
      exact x_iret (pc := 39) X V hr dX5_readPlain_39
  · replace hf := if_f hf c4
    refine lv_aload_n (pc := 10) hx hb dX5_readPlain_10 rfl (lv_at hl 0 rfl) ?_
    refine lv_bipush (pc := 11) (v := (ii 28)) hx hb dX5_readPlain_11 (by decide) ?_
    refine lv_iconst (pc := 13) (v := (ii 0)) hx hb dX5_readPlain_13 (by decide) ?_
    replace hf := bs hf; obtain ⟨I15, hk_16, hf⟩ := hf
    refine x_callV0 (pc := 14) (As := [.int (ii 28), .int (ii 0)]) (rest := []) X V (mX5_push l D dA s0 hk_16) okX5 ht3 q1889 q1891 qs71 q129 q1892 ⟨rfl, hsX5_push⟩ ⟨Nat.le_of_ble_eq_true rfl, Nat.le_of_ble_eq_true rfl⟩ rfl hl.1 rfl (Nat.le_of_ble_eq_true rfl) dX5_readPlain_14 ⟨Nat.zero_le _, Nat.zero_le _⟩ (fun H locs V => W.eq (g2 := F0 m 17 ls []) rfl ?_)
    refine lv_aload_n (pc := 17) hx hb dX5_readPlain_17 rfl (lv_at hl 0 rfl) ?_
    replace hf := b2s hf; obtain ⟨I17, L18, hk_19, hf⟩ := hf
    refine x_callV0 (pc := 18) (As := []) (rest := []) X V (mX5_next l D dA s0 hk_19) okX5 ht3 q1854 q1856 qs65 q129 q1857 ⟨rfl, hsX5_next⟩ ⟨Nat.le_of_ble_eq_true rfl, Nat.le_of_ble_eq_true rfl⟩ rfl hl.1 rfl (Nat.le_of_ble_eq_true rfl) dX5_readPlain_18 ⟨Nat.zero_le _, Nat.zero_le _⟩ (fun H locs V => W.eq (g2 := F0 m 21 ls []) rfl ?_)
    refine lv_iconst (pc := 21) (v := (ii 0)) hx hb dX5_readPlain_21 (by decide) ?_
    cases hf
    exact x_iret (pc := 22) X V hr dX5_readPlain_22
theorem mX5_readPlain {nf : Nat} (l : Launch) (D : va_G) (dA : Nat → ClassId) (s0 : Nat) {T : xT} {N : xT} {Z : Nat} {I : xI} {L : xL} {R : xR} {x0 : Nat} {ro : Int32} {Io : xI} {Lo : xL} (hf : fX5_readPlain nf T N I L R x0 = some (ro, Io, Lo)) : XMet l D dA s0 yX5_readPlain (ws_ yX5_readPlain cX5_readPlain 1 ((some .int))) (5) (109) [.ref x0] T N Z I L R (some (.int ro)) T N Z Io Lo R 0 0 :=
  x_start (own := RX5) rfl (by decide) (Nat.le_of_ble_eq_true rfl) (lv := [(0, .ref x0)]) rfl (fun p e s m below meth c ls X hr hini V hl => wX5_readPlain_e X hr hf V hl)
set_option maxHeartbeats 400000 in
set_option maxRecDepth 100000 in
theorem wX5_binds_e {p : Program} {l : Launch} {e : Env} {s : State} {m : MethodId} {args : Array Value} {below : List Frame} {meth : Method} {c : Code} {D : va_G} {dA : Nat → ClassId} {s0 : Nat} {T : xT} {N : xT} {Z : Nat} {I : xI} {L : xL} {R : xR} {H : Heap} {locs : List Loc} {ls : Array Slot} {x0 : Int32} {ro : Int32} (X : Cx D dA s0 p m c cX5_binds 1 s args RX5 meth) (hr : meth.sig.returnType = (some .int)) (hf : fX5_binds x0 = some ro) (V : Iv D dA s0 s T N Z I L R H locs) (hl : lv_has ls 1 [(0, .int x0)]) : W p l e { frames := 0, cells := 0, slots := 0, locals := 0 } s m args below meth c H locs 0 0 (MQ below (xQ D dA s0 (some (.int ro)) T N Z I L R) args s 0 0 (fun q => s0 ≤ q)) (F0 m 0 ls []) := by
  have hx := X.1.1
  have hb := X.1.2.1
  unfold fX5_binds at hf
  refine lv_iload_n (pc := 0) hx hb dX5_binds_0 rfl (lv_at hl 0 rfl) ?_
  refine lv_bipush (pc := 1) (v := (ii 31)) hx hb dX5_binds_1 (by decide) ?_
  refine lv_icmp_lt (pc := 3) (tgt := 10) hx hb dX5_binds_3 (by decide) (fun c1 => ?_) (fun c1 => ?_)
  · replace hf := if_t hf c1
    refine lv_iload_n (pc := 10) hx hb dX5_binds_10 rfl (lv_at hl 0 rfl) ?_
    refine lv_bipush (pc := 11) (v := (ii 30)) hx hb dX5_binds_11 (by decide) ?_
    refine lv_icmp_ne (pc := 13) (tgt := 20) hx hb dX5_binds_13 (by decide) (fun c2 => ?_) (fun c2 => ?_)
    · replace hf := if_f hf c2
      refine lv_iload_n (pc := 20) hx hb dX5_binds_20 rfl (lv_at hl 0 rfl) ?_
      refine lv_bipush (pc := 21) (v := (ii 29)) hx hb dX5_binds_21 (by decide) ?_
      refine lv_icmp_ne (pc := 23) (tgt := 30) hx hb dX5_binds_23 (by decide) (fun c3 => ?_) (fun c3 => ?_)
      · replace hf := if_f hf c3
        refine lv_iload_n (pc := 30) hx hb dX5_binds_30 rfl (lv_at hl 0 rfl) ?_
        refine lv_bipush (pc := 31) (v := (ii 28)) hx hb dX5_binds_31 (by decide) ?_
        refine lv_icmp_ne (pc := 33) (tgt := 40) hx hb dX5_binds_33 (by decide) (fun c4 => ?_) (fun c4 => ?_)
        · replace hf := if_f hf c4
          refine lv_iload_n (pc := 40) hx hb dX5_binds_40 rfl (lv_at hl 0 rfl) ?_
          refine lv_bipush (pc := 41) (v := (ii 25)) hx hb dX5_binds_41 (by decide) ?_
          refine lv_icmp_lt (pc := 43) (tgt := 50) hx hb dX5_binds_43 (by decide) (fun c5 => ?_) (fun c5 => ?_)
          · replace hf := if_t hf c5
            refine lv_iload_n (pc := 50) hx hb dX5_binds_50 rfl (lv_at hl 0 rfl) ?_
            refine lv_bipush (pc := 51) (v := (ii 22)) hx hb dX5_binds_51 (by decide) ?_
            refine lv_icmp_lt (pc := 53) (tgt := 61) hx hb dX5_binds_53 (by decide) (fun c6 => ?_) (fun c6 => ?_)
            · replace hf := if_t hf c6
              refine lv_iconst (pc := 61) (v := (ii 5)) hx hb dX5_binds_61 (by decide) ?_
              cases hf
              exact x_iret (pc := 62) X V hr dX5_binds_62
            · replace hf := if_f hf c6
              refine lv_bipush (pc := 56) (v := (ii 6)) hx hb dX5_binds_56 (by decide) ?_
              refine lv_goto (pc := 58) (tgt := 62) hx hb dX5_binds_58 (by decide) ?_
              cases hf
              exact x_iret (pc := 62) X V hr dX5_binds_62
          · replace hf := if_f hf c5
            refine lv_iconst (pc := 46) (v := (ii 4)) hx hb dX5_binds_46 (by decide) ?_
            refine lv_goto (pc := 47) (tgt := 62) hx hb dX5_binds_47 (by decide) ?_
            cases hf
            exact x_iret (pc := 62) X V hr dX5_binds_62
        · replace hf := if_t hf c4
          refine lv_iconst (pc := 36) (v := (ii 3)) hx hb dX5_binds_36 (by decide) ?_
          refine lv_goto (pc := 37) (tgt := 62) hx hb dX5_binds_37 (by decide) ?_
          cases hf
          exact x_iret (pc := 62) X V hr dX5_binds_62
      · replace hf := if_t hf c3
        refine lv_iconst (pc := 26) (v := (ii 2)) hx hb dX5_binds_26 (by decide) ?_
        refine lv_goto (pc := 27) (tgt := 62) hx hb dX5_binds_27 (by decide) ?_
        cases hf
        exact x_iret (pc := 62) X V hr dX5_binds_62
    · replace hf := if_t hf c2
      refine lv_iconst (pc := 16) (v := (ii 1)) hx hb dX5_binds_16 (by decide) ?_
      refine lv_goto (pc := 17) (tgt := 62) hx hb dX5_binds_17 (by decide) ?_
      cases hf
      exact x_iret (pc := 62) X V hr dX5_binds_62
  · replace hf := if_f hf c1
    refine lv_iconst (pc := 6) (v := (ii 0)) hx hb dX5_binds_6 (by decide) ?_
    refine lv_goto (pc := 7) (tgt := 62) hx hb dX5_binds_7 (by decide) ?_
    cases hf
    exact x_iret (pc := 62) X V hr dX5_binds_62
theorem mX5_binds (l : Launch) (D : va_G) (dA : Nat → ClassId) (s0 : Nat) {T : xT} {N : xT} {Z : Nat} {I : xI} {L : xL} {R : xR} {x0 : Int32} {ro : Int32} (hf : fX5_binds x0 = some ro) : XMet l D dA s0 yX5_binds (ws_ yX5_binds cX5_binds 1 ((some .int))) (0) (0) [.int x0] T N Z I L R (some (.int ro)) T N Z I L R 0 0 :=
  x_start (own := RX5) rfl (by decide) (Nat.le_of_ble_eq_true rfl) (lv := [(0, .int x0)]) rfl (fun p e s m below meth c ls X hr hini V hl => wX5_binds_e X hr hf V hl)
set_option maxHeartbeats 400000 in
set_option maxRecDepth 100000 in
theorem wX5_settle_b63 {nf : Nat} {p : Program} {l : Launch} {e : Env} {s : State} {m : MethodId} {args : Array Value} {below : List Frame} {meth : Method} {c : Code} {D : va_G} {dA : Nat → ClassId} {s0 : Nat} {T : xT} {N : xT} {Z : Nat} {I : xI} {L : xL} {R : xR} {H : Heap} {locs : List Loc} {ls : Array Slot} {kk0 : xI → Nat → Int32 → Option (xI)} {x0 : Nat} {x1 : Int32} {Io : xI} (X : Cx D dA s0 p m c cX5_settle 2 s args RX5 meth) (hr : meth.sig.returnType = none) (hk0 : ∀ {I : xI} {x0 : Nat} {x1 : Int32} {H : Heap} {locs : List Loc} {ls : Array Slot} , kk0 I x0 x1 = some Io → Iv D dA s0 s T N Z I L R H locs → lv_has ls 2 [(0, .ref x0), (1, .int x1)] → W p l e { frames := 1, cells := 0, slots := 0, locals := 22 } s m args below meth c H locs 0 0 (MQ below (xQ D dA s0 none T N Z Io L R) args s 0 0 (fun q => s0 ≤ q)) (F0 m 0 ls []))  (hf : fX5_settle_b63 nf kk0 T N I R x0 x1 = some Io) (V : Iv D dA s0 s T N Z I L R H locs) (hl : lv_has ls 2 [(0, .ref x0), (1, .int x1)]) : W p l e { frames := 1, cells := 0, slots := 0, locals := 22 } s m args below meth c H locs 0 0 (MQ below (xQ D dA s0 none T N Z Io L R) args s 0 0 (fun q => s0 ≤ q)) (F0 m 63 ls []) := by
  have hx := X.1.1
  have hb := X.1.2.1
  unfold fX5_settle_b63 at hf
  refine lv_aload_n (pc := 63) hx hb dX5_settle_63 rfl (lv_at hl 0 rfl) ?_
  replace hf := tg_s hf; obtain ⟨ht1, hf⟩ := hf
  replace hf := bs hf; obtain ⟨a2, ha2, hf⟩ := hf
  refine x_get (pc := 64) X V okX5 ht1 25 (by decide) q1546 (v := va_rf (R x0 25)) rfl dX5_settle_64 ?_
  refine x_topr ha2 ?_
  refine lv_aload_n (pc := 67) hx hb dX5_settle_67 rfl (lv_at hl 0 rfl) ?_
  replace hf := bs hf; obtain ⟨a3, ha3, hf⟩ := hf
  refine x_get (pc := 68) X V okX5 ht1 28 (by decide) q1549 (v := va_rf (R x0 28)) rfl dX5_settle_68 ?_
  refine x_topr ha3 ?_
  refine lv_aload_n (pc := 71) hx hb dX5_settle_71 rfl (lv_at hl 0 rfl) ?_
  refine x_get (pc := 72) X V okX5 ht1 29 (by decide) q1550 (v := .int (I x0 29)) rfl dX5_settle_72 ?_
  replace hf := rA_s hf; obtain ⟨j4, hjj4, htj4, hij4, hf⟩ := hf
  refine x_iald (pc := 75) X V htj4 hij4 hjj4 dX5_settle_75 ?_
  refine lv_aload_n (pc := 76) hx hb dX5_settle_76 rfl (lv_at hl 0 rfl) ?_
  refine x_get (pc := 77) X V okX5 ht1 23 (by decide) q1544 (v := .int (I x0 23)) rfl dX5_settle_77 ?_
  replace hf := rA_s hf; obtain ⟨j5, hjj5, htj5, hij5, hf⟩ := hf
  replace hf := nm_s hf; obtain ⟨I6, hI6, hf⟩ := hf
  refine x_iast (pc := 80) X V htj5 hij5 hjj5 hI6 dX5_settle_80 (fun H locs V => ?_)
  refine lv_goto (pc := 81) (tgt := 0) hx hb dX5_settle_81 (by decide) ?_
  exact hk0 hf V (lv_sub hl [0, 1] rfl)
set_option maxHeartbeats 400000 in
set_option maxRecDepth 100000 in
theorem wX5_settle_b0 {nf : Nat} {p : Program} {l : Launch} {e : Env} {s : State} {m : MethodId} {args : Array Value} {below : List Frame} {meth : Method} {c : Code} {D : va_G} {dA : Nat → ClassId} {s0 : Nat} {T : xT} {N : xT} {Z : Nat} {L : xL} {R : xR}  {Io : xI} (X : Cx D dA s0 p m c cX5_settle 2 s args RX5 meth) (hr : meth.sig.returnType = none)   (k : Nat) : ∀ {I : xI} {x0 : Nat} {x1 : Int32} {H : Heap} {locs : List Loc} {ls : Array Slot} , fX5_settle_b0 nf T N R k I x0 x1 = some Io → Iv D dA s0 s T N Z I L R H locs → lv_has ls 2 [(0, .ref x0), (1, .int x1)] → W p l e { frames := 1, cells := 0, slots := 0, locals := 22 } s m args below meth c H locs 0 0 (MQ below (xQ D dA s0 none T N Z Io L R) args s 0 0 (fun q => s0 ≤ q)) (F0 m 0 ls []) := by
  have hx := X.1.1
  have hb := X.1.2.1
  induction k with
  | zero =>
    intro I x0 x1 H locs ls hf V hl
    exact absurd (show none = some _ from hf) (fun q => nomatch q)
  | succ k ih =>
    intro I x0 x1 H locs ls hf V hl
    rw [fX5_settle_b0] at hf
    refine lv_aload_n (pc := 0) hx hb dX5_settle_0 rfl (lv_at hl 0 rfl) ?_
    replace hf := tg_s hf; obtain ⟨ht1, hf⟩ := hf
    refine x_get (pc := 1) X V okX5 ht1 29 (by decide) q1550 (v := .int (I x0 29)) rfl dX5_settle_1 ?_
    refine lv_if_le (pc := 4) (tgt := 101) hx hb dX5_settle_4 (by decide) (fun c2 => ?_) (fun c2 => ?_)
    · replace hf := if_t hf c2
      cases hf
      exact x_vret (pc := 101) X V hr dX5_settle_101
    · replace hf := if_f hf c2
      refine lv_aload_n (pc := 7) hx hb dX5_settle_7 rfl (lv_at hl 0 rfl) ?_
      replace hf := bs hf; obtain ⟨a3, ha3, hf⟩ := hf
      refine x_get (pc := 8) X V okX5 ht1 27 (by decide) q1548 (v := va_rf (R x0 27)) rfl dX5_settle_8 ?_
      refine x_topr ha3 ?_
      refine lv_aload_n (pc := 11) hx hb dX5_settle_11 rfl (lv_at hl 0 rfl) ?_
      refine x_get (pc := 12) X V okX5 ht1 29 (by decide) q1550 (v := .int (I x0 29)) rfl dX5_settle_12 ?_
      refine lv_iconst (pc := 15) (v := (ii 1)) hx hb dX5_settle_15 (by decide) ?_
      refine lv_isub (pc := 16) hx hb dX5_settle_16 ?_
      replace hf := rA_s hf; obtain ⟨j4, hjj4, htj4, hij4, hf⟩ := hf
      refine x_iald (pc := 17) X V htj4 hij4 hjj4 dX5_settle_17 ?_
      replace hf := bs hf; obtain ⟨r5, hk_6, hf⟩ := hf
      refine x_callS0 (pc := 18) (As := [.int (I a3 j4)]) (rest := []) X V (mX5_binds l D dA s0 hk_6) q1931 q1932 q129 q1933 hsX5_binds ⟨Nat.le_of_ble_eq_true rfl, Nat.le_of_ble_eq_true rfl⟩ rfl hl.1 rfl (Nat.le_of_ble_eq_true rfl) dX5_settle_18 ⟨Nat.zero_le _, Nat.zero_le _⟩ (fun H locs V => W.eq (g2 := F0 m 21 ls [.int r5]) rfl ?_)
      refine lv_iload_n (pc := 21) hx hb dX5_settle_21 rfl (lv_at hl 1 rfl) ?_
      refine lv_icmp_lt (pc := 22) (tgt := 101) hx hb dX5_settle_22 (by decide) (fun c7 => ?_) (fun c7 => ?_)
      · replace hf := if_t hf c7
        cases hf
        exact x_vret (pc := 101) X V hr dX5_settle_101
      · replace hf := if_f hf c7
        refine lv_aload_n (pc := 25) hx hb dX5_settle_25 rfl (lv_at hl 0 rfl) ?_
        refine lv_dup (pc := 26) hx hb dX5_settle_26 rfl ?_
        refine x_get (pc := 27) X V okX5 ht1 29 (by decide) q1550 (v := .int (I x0 29)) rfl dX5_settle_27 ?_
        refine lv_iconst (pc := 30) (v := (ii 1)) hx hb dX5_settle_30 (by decide) ?_
        refine lv_isub (pc := 31) hx hb dX5_settle_31 ?_
        replace hf := nm_s hf; obtain ⟨I8, hI8, hf⟩ := hf
        refine x_puti (pc := 32) X V okX5 (by decide) ht1 29 (by decide) q1550 (Or.inl rfl) hI8 (fun _ _ _ => rfl) rfl rfl dX5_settle_32 (fun H locs V => ?_)
        refine lv_aload_n (pc := 35) hx hb dX5_settle_35 rfl (lv_at hl 0 rfl) ?_
        refine x_get (pc := 36) X V okX5 ht1 27 (by decide) q1548 (v := va_rf (R x0 27)) rfl dX5_settle_36 ?_
        refine x_topr ha3 ?_
        refine lv_aload_n (pc := 39) hx hb dX5_settle_39 rfl (lv_at hl 0 rfl) ?_
        refine x_get (pc := 40) X V okX5 ht1 29 (by decide) q1550 (v := .int (I8 x0 29)) rfl dX5_settle_40 ?_
        replace hf := rA_s hf; obtain ⟨j9, hjj9, htj9, hij9, hf⟩ := hf
        refine x_iald (pc := 43) X V htj9 hij9 hjj9 dX5_settle_43 ?_
        refine lv_bipush (pc := 44) (v := (ii 29)) hx hb dX5_settle_44 (by decide) ?_
        refine lv_icmp_eq (pc := 46) (tgt := 63) hx hb dX5_settle_46 (by decide) (fun c10 => ?_) (fun c10 => ?_)
        · replace hf := if_t hf c10
          exact wX5_settle_b63 X hr ih hf V (lv_sub hl [0, 1] rfl)
        · replace hf := if_f hf c10
          refine lv_aload_n (pc := 49) hx hb dX5_settle_49 rfl (lv_at hl 0 rfl) ?_
          refine x_get (pc := 50) X V okX5 ht1 27 (by decide) q1548 (v := va_rf (R x0 27)) rfl dX5_settle_50 ?_
          refine x_topr ha3 ?_
          refine lv_aload_n (pc := 53) hx hb dX5_settle_53 rfl (lv_at hl 0 rfl) ?_
          refine x_get (pc := 54) X V okX5 ht1 29 (by decide) q1550 (v := .int (I8 x0 29)) rfl dX5_settle_54 ?_
          refine x_iald (pc := 57) X V htj9 hij9 hjj9 dX5_settle_57 ?_
          refine lv_bipush (pc := 58) (v := (ii 30)) hx hb dX5_settle_58 (by decide) ?_
          refine lv_icmp_ne (pc := 60) (tgt := 84) hx hb dX5_settle_60 (by decide) (fun c11 => ?_) (fun c11 => ?_)
          · replace hf := if_f hf c11
            refine lv_aload_n (pc := 84) hx hb dX5_settle_84 rfl (lv_at hl 0 rfl) ?_
            refine lv_aload_n (pc := 85) hx hb dX5_settle_85 rfl (lv_at hl 0 rfl) ?_
            refine x_get (pc := 86) X V okX5 ht1 27 (by decide) q1548 (v := va_rf (R x0 27)) rfl dX5_settle_86 ?_
            refine x_topr ha3 ?_
            refine lv_aload_n (pc := 89) hx hb dX5_settle_89 rfl (lv_at hl 0 rfl) ?_
            refine x_get (pc := 90) X V okX5 ht1 29 (by decide) q1550 (v := .int (I8 x0 29)) rfl dX5_settle_90 ?_
            refine x_iald (pc := 93) X V htj9 hij9 hjj9 dX5_settle_93 ?_
            refine lv_iconst (pc := 94) (v := (ii 0)) hx hb dX5_settle_94 (by decide) ?_
            replace hf := bs hf; obtain ⟨I12, hk_13, hf⟩ := hf
            refine x_callV0 (pc := 95) (As := [.int (I8 a3 j9), .int (ii 0)]) (rest := []) X V (mX5_emit l D dA s0 hk_13) okX5 ht1 q1918 q1920 qs78 q129 q1921 ⟨rfl, hsX5_emit⟩ ⟨Nat.le_of_ble_eq_true rfl, Nat.le_of_ble_eq_true rfl⟩ rfl hl.1 rfl (Nat.le_of_ble_eq_true rfl) dX5_settle_95 ⟨Nat.zero_le _, Nat.zero_le _⟩ (fun H locs V => W.eq (g2 := F0 m 98 ls []) rfl ?_)
            refine lv_goto (pc := 98) (tgt := 0) hx hb dX5_settle_98 (by decide) ?_
            exact ih hf V (lv_sub hl [0, 1] rfl)
          · replace hf := if_t hf c11
            exact wX5_settle_b63 X hr ih hf V (lv_sub hl [0, 1] rfl)
set_option maxHeartbeats 400000 in
set_option maxRecDepth 100000 in
theorem wX5_settle_e {nf : Nat} {p : Program} {l : Launch} {e : Env} {s : State} {m : MethodId} {args : Array Value} {below : List Frame} {meth : Method} {c : Code} {D : va_G} {dA : Nat → ClassId} {s0 : Nat} {T : xT} {N : xT} {Z : Nat} {I : xI} {L : xL} {R : xR} {H : Heap} {locs : List Loc} {ls : Array Slot} {x0 : Nat} {x1 : Int32} {Io : xI} (X : Cx D dA s0 p m c cX5_settle 2 s args RX5 meth) (hr : meth.sig.returnType = none) (hf : fX5_settle nf T N I R x0 x1 = some Io) (V : Iv D dA s0 s T N Z I L R H locs) (hl : lv_has ls 2 [(0, .ref x0), (1, .int x1)]) : W p l e { frames := 1, cells := 0, slots := 0, locals := 22 } s m args below meth c H locs 0 0 (MQ below (xQ D dA s0 none T N Z Io L R) args s 0 0 (fun q => s0 ≤ q)) (F0 m 0 ls []) := by
  have hx := X.1.1
  have hb := X.1.2.1
  unfold fX5_settle at hf
  exact wX5_settle_b0 X hr nf hf V (lv_sub hl [0, 1] rfl)
theorem mX5_settle {nf : Nat} (l : Launch) (D : va_G) (dA : Nat → ClassId) (s0 : Nat) {T : xT} {N : xT} {Z : Nat} {I : xI} {L : xL} {R : xR} {x0 : Nat} {x1 : Int32} {Io : xI} (hf : fX5_settle nf T N I R x0 x1 = some Io) : XMet l D dA s0 yX5_settle (ws_ yX5_settle cX5_settle 2 (none)) (1) (22) [.ref x0, .int x1] T N Z I L R none T N Z Io L R 0 0 :=
  x_start (own := RX5) rfl (by decide) (Nat.le_of_ble_eq_true rfl) (lv := [(0, .ref x0), (1, .int x1)]) rfl (fun p e s m below meth c ls X hr hini V hl => wX5_settle_e X hr hf V hl)
