set_option maxHeartbeats 400000 in
set_option maxRecDepth 100000 in
theorem wX5_tells_b186 {nf : Nat} {p : Program} {l : Launch} {e : Env} {s : State} {m : MethodId} {args : Array Value} {below : List Frame} {meth : Method} {c : Code} {D : va_G} {dA : Nat → ClassId} {s0 : Nat} {T : xT} {N : xT} {Z : Nat} {R : xR}  {ro : Int64} {Io : xI} {Lo : xL} (X : Cx D dA s0 p m c cX5_tells 10 s args RX5 meth) (hr : meth.sig.returnType = (some .long))   (k : Nat) : ∀ {I : xI} {L : xL} {x0 : Nat} {x1 : Int32} {x6 : Int64} {x8 : Int32} {H : Heap} {locs : List Loc} {ls : Array Slot} , fX5_tells_b186 nf T N R k I L x0 x1 x6 x8 = some (ro, Io, Lo) → Iv D dA s0 s T N Z I L R H locs → lv_has ls 10 [(0, .ref x0), (1, .int x1), (6, .long x6), (8, .int x8)] → W p l e { frames := 4, cells := 0, slots := 0, locals := 93 } s m args below meth c H locs 0 0 (MQ below (xQ D dA s0 (some (.long ro)) T N Z Io Lo R) args s 0 0 (fun q => s0 ≤ q)) (F0 m 186 ls []) := by
  have hx := X.1.1
  have hb := X.1.2.1
  induction k with
  | zero =>
    intro I L x0 x1 x6 x8 H locs ls hf V hl
    exact absurd (show none = some _ from hf) (fun q => nomatch q)
  | succ k ih =>
    intro I L x0 x1 x6 x8 H locs ls hf V hl
    rw [fX5_tells_b186] at hf
    refine lv_iload (pc := 186) hx hb dX5_tells_186 (lv_at hl 3 rfl) ?_
    refine lv_aload_n (pc := 188) hx hb dX5_tells_188 rfl (lv_at hl 0 rfl) ?_
    replace hf := tg_s hf; obtain ⟨ht1, hf⟩ := hf
    replace hf := bs hf; obtain ⟨a2, ha2, hf⟩ := hf
    refine x_get (pc := 189) X V okX5 ht1 3 (by decide) q1524 (v := va_rf (R x0 3)) rfl dX5_tells_189 ?_
    refine x_topr ha2 ?_
    refine lv_aload_n (pc := 192) hx hb dX5_tells_192 rfl (lv_at hl 0 rfl) ?_
    refine x_get (pc := 193) X V okX5 ht1 34 (by decide) q1555 (v := .int (I x0 34)) rfl dX5_tells_193 ?_
    refine lv_iconst (pc := 196) (v := (ii 1)) hx hb dX5_tells_196 (by decide) ?_
    refine lv_iadd (pc := 197) hx hb dX5_tells_197 ?_
    replace hf := rA_s hf; obtain ⟨j3, hjj3, htj3, hij3, hf⟩ := hf
    refine x_iald (pc := 198) X V htj3 hij3 hjj3 dX5_tells_198 ?_
    refine lv_icmp_ge (pc := 199) (tgt := 257) hx hb dX5_tells_199 (by decide) (fun c4 => ?_) (fun c4 => ?_)
    · replace hf := if_t hf c4
      refine lv_lload (pc := 257) hx hb dX5_tells_257 (lv_at hl 2 rfl) ?_
      cases hf
      exact x_lret (pc := 259) X V hr dX5_tells_259
    · replace hf := if_f hf c4
      refine lv_aload_n (pc := 202) hx hb dX5_tells_202 rfl (lv_at hl 0 rfl) ?_
      refine x_get (pc := 203) X V okX5 ht1 34 (by decide) q1555 (v := .int (I x0 34)) rfl dX5_tells_203 ?_
      refine lv_iconst (pc := 206) (v := (ii 2)) hx hb dX5_tells_206 (by decide) ?_
      refine lv_iadd (pc := 207) hx hb dX5_tells_207 ?_
      refine lv_bipush (pc := 208) (v := (ii 8)) hx hb dX5_tells_208 (by decide) ?_
      refine lv_iload (pc := 210) hx hb dX5_tells_210 (lv_at hl 3 rfl) ?_
      refine lv_imul (pc := 212) hx hb dX5_tells_212 ?_
      refine lv_iadd (pc := 213) hx hb dX5_tells_213 ?_
      replace hf := nm_s hf; obtain ⟨u5, hu5, hf⟩ := hf
      refine x_topi hu5 ?_
      refine lv_istore (pc := 214) (lv' := [(9, .int u5), (0, .ref x0), (1, .int x1), (6, .long x6), (8, .int x8)]) hx hb dX5_tells_214 hl (by decide) rfl (fun ls hl => ?_)
      refine lv_aload_n (pc := 216) hx hb dX5_tells_216 rfl (lv_at hl 1 rfl) ?_
      refine x_get (pc := 217) X V okX5 ht1 3 (by decide) q1524 (v := va_rf (R x0 3)) rfl dX5_tells_217 ?_
      refine x_topr ha2 ?_
      refine lv_iload (pc := 220) hx hb dX5_tells_220 (lv_at hl 0 rfl) ?_
      replace hf := rA_s hf; obtain ⟨j6, hjj6, htj6, hij6, hf⟩ := hf
      refine x_iald (pc := 222) X V htj6 hij6 hjj6 dX5_tells_222 ?_
      refine lv_iload_n (pc := 223) hx hb dX5_tells_223 rfl (lv_at hl 2 rfl) ?_
      refine lv_icmp_ne (pc := 224) (tgt := 251) hx hb dX5_tells_224 (by decide) (fun c7 => ?_) (fun c7 => ?_)
      · replace hf := if_f hf c7
        replace hf := nm_s hf; obtain ⟨u8, hu8, hf⟩ := hf
        refine lv_iinc (pc := 251) (v := u8) (lv' := [(8, .int u8), (9, .int u5), (0, .ref x0), (1, .int x1), (6, .long x6)]) hx hb dX5_tells_251 hl (k := 4) rfl (by rw [hu8]; rfl) (by decide) rfl (fun ls hl => ?_)
        refine lv_goto (pc := 254) (tgt := 186) hx hb dX5_tells_254 (by decide) ?_
        exact ih hf V (lv_sub hl [2, 3, 4, 0] rfl)
      · replace hf := if_t hf c7
        refine lv_aload_n (pc := 227) hx hb dX5_tells_227 rfl (lv_at hl 1 rfl) ?_
        refine lv_iload (pc := 228) hx hb dX5_tells_228 (lv_at hl 0 rfl) ?_
        replace hf := b3s hf; obtain ⟨r9, I10, L11, hk_12, hf⟩ := hf
        refine x_callV0 (pc := 230) (As := [.int u5]) (rest := []) X V (mX5_isSo l D dA s0 hk_12) okX5 ht1 q1767 q1769 qs53 q129 q1770 ⟨rfl, hsX5_isSo⟩ ⟨Nat.le_of_ble_eq_true rfl, Nat.le_of_ble_eq_true rfl⟩ rfl hl.1 rfl (Nat.le_of_ble_eq_true rfl) dX5_tells_230 ⟨Nat.zero_le _, Nat.zero_le _⟩ (fun H locs V => W.eq (g2 := F0 m 233 ls [.int r9]) rfl ?_)
        refine lv_if_eq (pc := 233) (tgt := 251) hx hb dX5_tells_233 (by decide) (fun c13 => ?_) (fun c13 => ?_)
        · replace hf := if_t hf c13
          replace hf := nm_s hf; obtain ⟨u14, hu14, hf⟩ := hf
          refine lv_iinc (pc := 251) (v := u14) (lv' := [(8, .int u14), (9, .int u5), (0, .ref x0), (1, .int x1), (6, .long x6)]) hx hb dX5_tells_251 hl (k := 4) rfl (by rw [hu14]; rfl) (by decide) rfl (fun ls hl => ?_)
          refine lv_goto (pc := 254) (tgt := 186) hx hb dX5_tells_254 (by decide) ?_
          exact ih hf V (lv_sub hl [2, 3, 4, 0] rfl)
        · replace hf := if_f hf c13
          refine lv_iload_n (pc := 236) hx hb dX5_tells_236 rfl (lv_at hl 2 rfl) ?_
          refine lv_iconst (pc := 237) (v := (ii 2)) hx hb dX5_tells_237 (by decide) ?_
          refine lv_icmp_ne (pc := 238) (tgt := 245) hx hb dX5_tells_238 (by decide) (fun c15 => ?_) (fun c15 => ?_)
          · replace hf := if_f hf c15
            refine lv_aload_n (pc := 245) hx hb dX5_tells_245 rfl (lv_at hl 1 rfl) ?_
            refine x_get (pc := 246) X V okX5 ht1 40 (by decide) q1561 (v := .long (L11 x0 40)) rfl dX5_tells_246 ?_
            replace hf := nm_s hf; obtain ⟨u16, hu16, hf⟩ := hf
            refine x_topl hu16 ?_
            refine lv_lstore (pc := 249) (lv' := [(6, .long u16), (9, .int u5), (0, .ref x0), (1, .int x1), (8, .int x8)]) hx hb dX5_tells_249 hl (by decide) rfl (fun ls hl => ?_)
            replace hf := nm_s hf; obtain ⟨u17, hu17, hf⟩ := hf
            refine lv_iinc (pc := 251) (v := u17) (lv' := [(8, .int u17), (6, .long u16), (9, .int u5), (0, .ref x0), (1, .int x1)]) hx hb dX5_tells_251 hl (k := 4) rfl (by rw [hu17]; rfl) (by decide) rfl (fun ls hl => ?_)
            refine lv_goto (pc := 254) (tgt := 186) hx hb dX5_tells_254 (by decide) ?_
            exact ih hf V (lv_sub hl [3, 4, 1, 0] rfl)
          · replace hf := if_t hf c15
            refine lv_lconst (pc := 241) (v := (jj 1)) hx hb dX5_tells_241 (by decide) ?_
            refine lv_goto (pc := 242) (tgt := 249) hx hb dX5_tells_242 (by decide) ?_
            refine lv_lstore (pc := 249) (lv' := [(6, .long (jj 1)), (9, .int u5), (0, .ref x0), (1, .int x1), (8, .int x8)]) hx hb dX5_tells_249 hl (by decide) rfl (fun ls hl => ?_)
            replace hf := nm_s hf; obtain ⟨u18, hu18, hf⟩ := hf
            refine lv_iinc (pc := 251) (v := u18) (lv' := [(8, .int u18), (6, .long (jj 1)), (9, .int u5), (0, .ref x0), (1, .int x1)]) hx hb dX5_tells_251 hl (k := 4) rfl (by rw [hu18]; rfl) (by decide) rfl (fun ls hl => ?_)
            refine lv_goto (pc := 254) (tgt := 186) hx hb dX5_tells_254 (by decide) ?_
            exact ih hf V (lv_sub hl [3, 4, 1, 0] rfl)
set_option maxHeartbeats 400000 in
set_option maxRecDepth 100000 in
theorem wX5_tells_b115 {nf : Nat} {p : Program} {l : Launch} {e : Env} {s : State} {m : MethodId} {args : Array Value} {below : List Frame} {meth : Method} {c : Code} {D : va_G} {dA : Nat → ClassId} {s0 : Nat} {T : xT} {N : xT} {Z : Nat} {I : xI} {L : xL} {R : xR} {H : Heap} {locs : List Loc} {ls : Array Slot}  {x0 : Nat} {x1 : Int32} {x2 : Int32} {x4 : Int64} {z0 : Nat} {z1 : Int32} {z2 : Int64} {ro : Int64} {Io : xI} {Lo : xL} (X : Cx D dA s0 p m c cX5_tells 10 s args RX5 meth) (hr : meth.sig.returnType = (some .long))   (hf : fX5_tells_b115 nf T N I L R x0 x1 x2 x4 z0 z1 z2 = some (ro, Io, Lo)) (V : Iv D dA s0 s T N Z I L R H locs) (hl : lv_has ls 10 [(0, .ref x0), (1, .int x1), (2, .int x2), (4, .long x4)]) : W p l e { frames := 4, cells := 0, slots := 0, locals := 93 } s m args below meth c H locs 0 0 (MQ below (xQ D dA s0 (some (.long ro)) T N Z Io Lo R) args s 0 0 (fun q => s0 ≤ q)) (F0 m 115 ls [.long z2, .int z1, .ref z0]) := by
  have hx := X.1.1
  have hb := X.1.2.1
  unfold fX5_tells_b115 at hf
  replace hf := rA_s hf; obtain ⟨j1, hjj1, htj1, hij1, hf⟩ := hf
  replace hf := nm_s hf; obtain ⟨L2, hL2, hf⟩ := hf
  refine x_last (pc := 115) X V htj1 hij1 hjj1 hL2 dX5_tells_115 (fun H locs V => ?_)
  refine lv_aload_n (pc := 116) hx hb dX5_tells_116 rfl (lv_at hl 0 rfl) ?_
  replace hf := tg_s hf; obtain ⟨ht3, hf⟩ := hf
  replace hf := bs hf; obtain ⟨a4, ha4, hf⟩ := hf
  refine x_get (pc := 117) X V okX5 ht3 35 (by decide) q1556 (v := va_rf (R x0 35)) rfl dX5_tells_117 ?_
  refine x_topr ha4 ?_
  refine lv_bipush (pc := 120) (v := (ii 6)) hx hb dX5_tells_120 (by decide) ?_
  refine lv_aload_n (pc := 122) hx hb dX5_tells_122 rfl (lv_at hl 0 rfl) ?_
  replace hf := bs hf; obtain ⟨a5, ha5, hf⟩ := hf
  refine x_get (pc := 123) X V okX5 ht3 3 (by decide) q1524 (v := va_rf (R x0 3)) rfl dX5_tells_123 ?_
  refine x_topr ha5 ?_
  refine lv_bipush (pc := 126) (v := (ii 18)) hx hb dX5_tells_126 (by decide) ?_
  refine lv_iload_n (pc := 128) hx hb dX5_tells_128 rfl (lv_at hl 2 rfl) ?_
  refine lv_iadd (pc := 129) hx hb dX5_tells_129 ?_
  replace hf := rA_s hf; obtain ⟨j6, hjj6, htj6, hij6, hf⟩ := hf
  refine x_iald (pc := 130) X V htj6 hij6 hjj6 dX5_tells_130 ?_
  refine lv_i2l (pc := 131) hx hb dX5_tells_131 rfl ?_
  replace hf := rA_s hf; obtain ⟨j7, hjj7, htj7, hij7, hf⟩ := hf
  replace hf := nm_s hf; obtain ⟨L8, hL8, hf⟩ := hf
  refine x_last (pc := 132) X V htj7 hij7 hjj7 hL8 dX5_tells_132 (fun H locs V => ?_)
  refine lv_aload_n (pc := 133) hx hb dX5_tells_133 rfl (lv_at hl 0 rfl) ?_
  refine x_get (pc := 134) X V okX5 ht3 35 (by decide) q1556 (v := va_rf (R x0 35)) rfl dX5_tells_134 ?_
  refine x_topr ha4 ?_
  refine lv_bipush (pc := 137) (v := (ii 7)) hx hb dX5_tells_137 (by decide) ?_
  refine lv_aload_n (pc := 139) hx hb dX5_tells_139 rfl (lv_at hl 0 rfl) ?_
  refine x_get (pc := 140) X V okX5 ht3 3 (by decide) q1524 (v := va_rf (R x0 3)) rfl dX5_tells_140 ?_
  refine x_topr ha5 ?_
  refine lv_bipush (pc := 143) (v := (ii 22)) hx hb dX5_tells_143 (by decide) ?_
  refine lv_iload_n (pc := 145) hx hb dX5_tells_145 rfl (lv_at hl 2 rfl) ?_
  refine lv_iadd (pc := 146) hx hb dX5_tells_146 ?_
  replace hf := rA_s hf; obtain ⟨j9, hjj9, htj9, hij9, hf⟩ := hf
  refine x_iald (pc := 147) X V htj9 hij9 hjj9 dX5_tells_147 ?_
  refine lv_i2l (pc := 148) hx hb dX5_tells_148 rfl ?_
  replace hf := rA_s hf; obtain ⟨j10, hjj10, htj10, hij10, hf⟩ := hf
  replace hf := nm_s hf; obtain ⟨L11, hL11, hf⟩ := hf
  refine x_last (pc := 149) X V htj10 hij10 hjj10 hL11 dX5_tells_149 (fun H locs V => ?_)
  refine lv_aload_n (pc := 150) hx hb dX5_tells_150 rfl (lv_at hl 0 rfl) ?_
  refine x_get (pc := 151) X V okX5 ht3 35 (by decide) q1556 (v := va_rf (R x0 35)) rfl dX5_tells_151 ?_
  refine x_topr ha4 ?_
  refine lv_bipush (pc := 154) (v := (ii 8)) hx hb dX5_tells_154 (by decide) ?_
  refine lv_aload_n (pc := 156) hx hb dX5_tells_156 rfl (lv_at hl 0 rfl) ?_
  refine x_get (pc := 157) X V okX5 ht3 3 (by decide) q1524 (v := va_rf (R x0 3)) rfl dX5_tells_157 ?_
  refine x_topr ha5 ?_
  refine lv_iconst (pc := 160) (v := (ii 5)) hx hb dX5_tells_160 (by decide) ?_
  replace hf := rA_s hf; obtain ⟨j12, hjj12, htj12, hij12, hf⟩ := hf
  refine x_iald (pc := 161) X V htj12 hij12 hjj12 dX5_tells_161 ?_
  refine lv_i2l (pc := 162) hx hb dX5_tells_162 rfl ?_
  replace hf := rA_s hf; obtain ⟨j13, hjj13, htj13, hij13, hf⟩ := hf
  replace hf := nm_s hf; obtain ⟨L14, hL14, hf⟩ := hf
  refine x_last (pc := 163) X V htj13 hij13 hjj13 hL14 dX5_tells_163 (fun H locs V => ?_)
  refine lv_aload_n (pc := 164) hx hb dX5_tells_164 rfl (lv_at hl 0 rfl) ?_
  refine x_get (pc := 165) X V okX5 ht3 35 (by decide) q1556 (v := va_rf (R x0 35)) rfl dX5_tells_165 ?_
  refine x_topr ha4 ?_
  refine lv_bipush (pc := 168) (v := (ii 9)) hx hb dX5_tells_168 (by decide) ?_
  refine lv_aload_n (pc := 170) hx hb dX5_tells_170 rfl (lv_at hl 0 rfl) ?_
  refine x_get (pc := 171) X V okX5 ht3 3 (by decide) q1524 (v := va_rf (R x0 3)) rfl dX5_tells_171 ?_
  refine x_topr ha5 ?_
  refine lv_bipush (pc := 174) (v := (ii 7)) hx hb dX5_tells_174 (by decide) ?_
  replace hf := rA_s hf; obtain ⟨j15, hjj15, htj15, hij15, hf⟩ := hf
  refine x_iald (pc := 176) X V htj15 hij15 hjj15 dX5_tells_176 ?_
  refine lv_i2l (pc := 177) hx hb dX5_tells_177 rfl ?_
  replace hf := rA_s hf; obtain ⟨j16, hjj16, htj16, hij16, hf⟩ := hf
  replace hf := nm_s hf; obtain ⟨L17, hL17, hf⟩ := hf
  refine x_last (pc := 178) X V htj16 hij16 hjj16 hL17 dX5_tells_178 (fun H locs V => ?_)
  refine lv_lload (pc := 179) hx hb dX5_tells_179 (lv_at hl 3 rfl) ?_
  refine lv_lstore (pc := 181) (lv' := [(6, .long x4), (0, .ref x0), (1, .int x1), (2, .int x2), (4, .long x4)]) hx hb dX5_tells_181 hl (by decide) rfl (fun ls hl => ?_)
  refine lv_iconst (pc := 183) (v := (ii 0)) hx hb dX5_tells_183 (by decide) ?_
  refine lv_istore (pc := 184) (lv' := [(8, .int (ii 0)), (6, .long x4), (0, .ref x0), (1, .int x1), (2, .int x2), (4, .long x4)]) hx hb dX5_tells_184 hl (by decide) rfl (fun ls hl => ?_)
  exact wX5_tells_b186 X hr nf hf V (lv_sub hl [2, 3, 1, 0] rfl)
set_option maxHeartbeats 400000 in
set_option maxRecDepth 100000 in
theorem wX5_tells_b88 {nf : Nat} {p : Program} {l : Launch} {e : Env} {s : State} {m : MethodId} {args : Array Value} {below : List Frame} {meth : Method} {c : Code} {D : va_G} {dA : Nat → ClassId} {s0 : Nat} {T : xT} {N : xT} {Z : Nat} {I : xI} {L : xL} {R : xR} {H : Heap} {locs : List Loc} {ls : Array Slot}  {x0 : Nat} {x1 : Int32} {x2 : Int32} {x3 : Int32} {x4 : Int64} {z0 : Nat} {z1 : Int32} {z2 : Int64} {ro : Int64} {Io : xI} {Lo : xL} (X : Cx D dA s0 p m c cX5_tells 10 s args RX5 meth) (hr : meth.sig.returnType = (some .long))   (hf : fX5_tells_b88 nf T N I L R x0 x1 x2 x3 x4 z0 z1 z2 = some (ro, Io, Lo)) (V : Iv D dA s0 s T N Z I L R H locs) (hl : lv_has ls 10 [(0, .ref x0), (1, .int x1), (2, .int x2), (3, .int x3), (4, .long x4)]) : W p l e { frames := 4, cells := 0, slots := 0, locals := 93 } s m args below meth c H locs 0 0 (MQ below (xQ D dA s0 (some (.long ro)) T N Z Io Lo R) args s 0 0 (fun q => s0 ≤ q)) (F0 m 88 ls [.long z2, .int z1, .ref z0]) := by
  have hx := X.1.1
  have hb := X.1.2.1
  unfold fX5_tells_b88 at hf
  replace hf := rA_s hf; obtain ⟨j1, hjj1, htj1, hij1, hf⟩ := hf
  replace hf := nm_s hf; obtain ⟨L2, hL2, hf⟩ := hf
  refine x_last (pc := 88) X V htj1 hij1 hjj1 hL2 dX5_tells_88 (fun H locs V => ?_)
  refine lv_aload_n (pc := 89) hx hb dX5_tells_89 rfl (lv_at hl 0 rfl) ?_
  replace hf := tg_s hf; obtain ⟨ht3, hf⟩ := hf
  replace hf := bs hf; obtain ⟨a4, ha4, hf⟩ := hf
  refine x_get (pc := 90) X V okX5 ht3 35 (by decide) q1556 (v := va_rf (R x0 35)) rfl dX5_tells_90 ?_
  refine x_topr ha4 ?_
  refine lv_iconst (pc := 93) (v := (ii 5)) hx hb dX5_tells_93 (by decide) ?_
  refine lv_iload_n (pc := 94) hx hb dX5_tells_94 rfl (lv_at hl 3 rfl) ?_
  refine lv_iconst (pc := 95) (v := (-1 : Int32)) hx hb dX5_tells_95 (by decide) ?_
  refine lv_icmp_ne (pc := 96) (tgt := 105) hx hb dX5_tells_96 (by decide) (fun c5 => ?_) (fun c5 => ?_)
  · replace hf := if_f hf c5
    refine lv_aload_n (pc := 105) hx hb dX5_tells_105 rfl (lv_at hl 0 rfl) ?_
    replace hf := bs hf; obtain ⟨a6, ha6, hf⟩ := hf
    refine x_get (pc := 106) X V okX5 ht3 3 (by decide) q1524 (v := va_rf (R x0 3)) rfl dX5_tells_106 ?_
    refine x_topr ha6 ?_
    refine lv_bipush (pc := 109) (v := (ii 56)) hx hb dX5_tells_109 (by decide) ?_
    refine lv_iload_n (pc := 111) hx hb dX5_tells_111 rfl (lv_at hl 3 rfl) ?_
    refine lv_iadd (pc := 112) hx hb dX5_tells_112 ?_
    replace hf := rA_s hf; obtain ⟨j7, hjj7, htj7, hij7, hf⟩ := hf
    refine x_iald (pc := 113) X V htj7 hij7 hjj7 dX5_tells_113 ?_
    refine lv_i2l (pc := 114) hx hb dX5_tells_114 rfl ?_
    exact wX5_tells_b115 X hr hf V (lv_sub hl [0, 1, 2, 4] rfl)
  · replace hf := if_t hf c5
    refine lv_ldc2 (pc := 99) (v := (-1 : Int64)) hx hb X.1.2.2.2.1 (X.1.2.2.2.2 _ q1766) dX5_tells_99 ?_
    refine lv_goto (pc := 102) (tgt := 115) hx hb dX5_tells_102 (by decide) ?_
    exact wX5_tells_b115 X hr hf V (lv_sub hl [0, 1, 2, 4] rfl)
set_option maxHeartbeats 400000 in
set_option maxRecDepth 100000 in
theorem wX5_tells_e {nf : Nat} {p : Program} {l : Launch} {e : Env} {s : State} {m : MethodId} {args : Array Value} {below : List Frame} {meth : Method} {c : Code} {D : va_G} {dA : Nat → ClassId} {s0 : Nat} {T : xT} {N : xT} {Z : Nat} {I : xI} {L : xL} {R : xR} {H : Heap} {locs : List Loc} {ls : Array Slot} {x0 : Nat} {x1 : Int32} {x2 : Int32} {x3 : Int32} {x4 : Int64} {ro : Int64} {Io : xI} {Lo : xL} (X : Cx D dA s0 p m c cX5_tells 10 s args RX5 meth) (hr : meth.sig.returnType = (some .long)) (hf : fX5_tells nf T N I L R x0 x1 x2 x3 x4 = some (ro, Io, Lo)) (V : Iv D dA s0 s T N Z I L R H locs) (hl : lv_has ls 10 [(0, .ref x0), (1, .int x1), (2, .int x2), (3, .int x3), (4, .long x4)]) : W p l e { frames := 4, cells := 0, slots := 0, locals := 93 } s m args below meth c H locs 0 0 (MQ below (xQ D dA s0 (some (.long ro)) T N Z Io Lo R) args s 0 0 (fun q => s0 ≤ q)) (F0 m 0 ls []) := by
  have hx := X.1.1
  have hb := X.1.2.1
  unfold fX5_tells at hf
  refine lv_aload_n (pc := 0) hx hb dX5_tells_0 rfl (lv_at hl 0 rfl) ?_
  replace hf := tg_s hf; obtain ⟨ht1, hf⟩ := hf
  replace hf := bs hf; obtain ⟨a2, ha2, hf⟩ := hf
  refine x_get (pc := 1) X V okX5 ht1 3 (by decide) q1524 (v := va_rf (R x0 3)) rfl dX5_tells_1 ?_
  refine x_topr ha2 ?_
  refine lv_iconst (pc := 4) (v := (ii 4)) hx hb dX5_tells_4 (by decide) ?_
  replace hf := rA_s hf; obtain ⟨j3, hjj3, htj3, hij3, hf⟩ := hf
  refine x_iald (pc := 5) X V htj3 hij3 hjj3 dX5_tells_5 ?_
  refine lv_iconst (pc := 6) (v := (-1 : Int32)) hx hb dX5_tells_6 (by decide) ?_
  refine lv_icmp_ne (pc := 7) (tgt := 13) hx hb dX5_tells_7 (by decide) (fun c4 => ?_) (fun c4 => ?_)
  · replace hf := if_f hf c4
    refine lv_aload_n (pc := 13) hx hb dX5_tells_13 rfl (lv_at hl 0 rfl) ?_
    refine lv_bipush (pc := 14) (v := (ii 76)) hx hb dX5_tells_14 (by decide) ?_
    refine lv_sipush (pc := 16) (v := (ii 900)) hx hb dX5_tells_16 (by decide) ?_
    refine lv_aload_n (pc := 19) hx hb dX5_tells_19 rfl (lv_at hl 0 rfl) ?_
    refine x_get (pc := 20) X V okX5 ht1 3 (by decide) q1524 (v := va_rf (R x0 3)) rfl dX5_tells_20 ?_
    refine x_topr ha2 ?_
    refine lv_iconst (pc := 23) (v := (ii 4)) hx hb dX5_tells_23 (by decide) ?_
    refine x_iald (pc := 24) X V htj3 hij3 hjj3 dX5_tells_24 ?_
    refine lv_imul (pc := 25) hx hb dX5_tells_25 ?_
    refine lv_iadd (pc := 26) hx hb dX5_tells_26 ?_
    replace hf := nm_s hf; obtain ⟨I5, hI5, hf⟩ := hf
    refine x_puti (pc := 27) X V okX5 (by decide) ht1 34 (by decide) q1555 (Or.inl rfl) hI5 (fun _ _ _ => rfl) rfl rfl dX5_tells_27 (fun H locs V => ?_)
    refine lv_aload_n (pc := 30) hx hb dX5_tells_30 rfl (lv_at hl 0 rfl) ?_
    replace hf := bs hf; obtain ⟨a6, ha6, hf⟩ := hf
    refine x_get (pc := 31) X V okX5 ht1 35 (by decide) q1556 (v := va_rf (R x0 35)) rfl dX5_tells_31 ?_
    refine x_topr ha6 ?_
    refine lv_iconst (pc := 34) (v := (ii 1)) hx hb dX5_tells_34 (by decide) ?_
    refine lv_iload_n (pc := 35) hx hb dX5_tells_35 rfl (lv_at hl 2 rfl) ?_
    refine lv_i2l (pc := 36) hx hb dX5_tells_36 rfl ?_
    replace hf := rA_s hf; obtain ⟨j7, hjj7, htj7, hij7, hf⟩ := hf
    replace hf := nm_s hf; obtain ⟨L8, hL8, hf⟩ := hf
    refine x_last (pc := 37) X V htj7 hij7 hjj7 hL8 dX5_tells_37 (fun H locs V => ?_)
    refine lv_aload_n (pc := 38) hx hb dX5_tells_38 rfl (lv_at hl 0 rfl) ?_
    refine x_get (pc := 39) X V okX5 ht1 35 (by decide) q1556 (v := va_rf (R x0 35)) rfl dX5_tells_39 ?_
    refine x_topr ha6 ?_
    refine lv_iconst (pc := 42) (v := (ii 2)) hx hb dX5_tells_42 (by decide) ?_
    refine lv_aload_n (pc := 43) hx hb dX5_tells_43 rfl (lv_at hl 0 rfl) ?_
    refine x_get (pc := 44) X V okX5 ht1 3 (by decide) q1524 (v := va_rf (R x0 3)) rfl dX5_tells_44 ?_
    refine x_topr ha2 ?_
    refine lv_bipush (pc := 47) (v := (ii 66)) hx hb dX5_tells_47 (by decide) ?_
    refine lv_iload_n (pc := 49) hx hb dX5_tells_49 rfl (lv_at hl 2 rfl) ?_
    refine lv_iadd (pc := 50) hx hb dX5_tells_50 ?_
    replace hf := rA_s hf; obtain ⟨j9, hjj9, htj9, hij9, hf⟩ := hf
    refine x_iald (pc := 51) X V htj9 hij9 hjj9 dX5_tells_51 ?_
    refine lv_i2l (pc := 52) hx hb dX5_tells_52 rfl ?_
    replace hf := rA_s hf; obtain ⟨j10, hjj10, htj10, hij10, hf⟩ := hf
    replace hf := nm_s hf; obtain ⟨L11, hL11, hf⟩ := hf
    refine x_last (pc := 53) X V htj10 hij10 hjj10 hL11 dX5_tells_53 (fun H locs V => ?_)
    refine lv_aload_n (pc := 54) hx hb dX5_tells_54 rfl (lv_at hl 0 rfl) ?_
    refine x_get (pc := 55) X V okX5 ht1 35 (by decide) q1556 (v := va_rf (R x0 35)) rfl dX5_tells_55 ?_
    refine x_topr ha6 ?_
    refine lv_iconst (pc := 58) (v := (ii 3)) hx hb dX5_tells_58 (by decide) ?_
    refine lv_iload_n (pc := 59) hx hb dX5_tells_59 rfl (lv_at hl 3 rfl) ?_
    refine lv_i2l (pc := 60) hx hb dX5_tells_60 rfl ?_
    replace hf := rA_s hf; obtain ⟨j12, hjj12, htj12, hij12, hf⟩ := hf
    replace hf := nm_s hf; obtain ⟨L13, hL13, hf⟩ := hf
    refine x_last (pc := 61) X V htj12 hij12 hjj12 hL13 dX5_tells_61 (fun H locs V => ?_)
    refine lv_aload_n (pc := 62) hx hb dX5_tells_62 rfl (lv_at hl 0 rfl) ?_
    refine x_get (pc := 63) X V okX5 ht1 35 (by decide) q1556 (v := va_rf (R x0 35)) rfl dX5_tells_63 ?_
    refine x_topr ha6 ?_
    refine lv_iconst (pc := 66) (v := (ii 4)) hx hb dX5_tells_66 (by decide) ?_
    refine lv_iload_n (pc := 67) hx hb dX5_tells_67 rfl (lv_at hl 3 rfl) ?_
    refine lv_iconst (pc := 68) (v := (-1 : Int32)) hx hb dX5_tells_68 (by decide) ?_
    refine lv_icmp_ne (pc := 69) (tgt := 78) hx hb dX5_tells_69 (by decide) (fun c14 => ?_) (fun c14 => ?_)
    · replace hf := if_f hf c14
      refine lv_aload_n (pc := 78) hx hb dX5_tells_78 rfl (lv_at hl 0 rfl) ?_
      refine x_get (pc := 79) X V okX5 ht1 3 (by decide) q1524 (v := va_rf (R x0 3)) rfl dX5_tells_79 ?_
      refine x_topr ha2 ?_
      refine lv_bipush (pc := 82) (v := (ii 46)) hx hb dX5_tells_82 (by decide) ?_
      refine lv_iload_n (pc := 84) hx hb dX5_tells_84 rfl (lv_at hl 3 rfl) ?_
      refine lv_iadd (pc := 85) hx hb dX5_tells_85 ?_
      replace hf := rA_s hf; obtain ⟨j15, hjj15, htj15, hij15, hf⟩ := hf
      refine x_iald (pc := 86) X V htj15 hij15 hjj15 dX5_tells_86 ?_
      refine lv_i2l (pc := 87) hx hb dX5_tells_87 rfl ?_
      exact wX5_tells_b88 X hr hf V (lv_sub hl [0, 1, 2, 3, 4] rfl)
    · replace hf := if_t hf c14
      refine lv_ldc2 (pc := 72) (v := (-1 : Int64)) hx hb X.1.2.2.2.1 (X.1.2.2.2.2 _ q1766) dX5_tells_72 ?_
      refine lv_goto (pc := 75) (tgt := 88) hx hb dX5_tells_75 (by decide) ?_
      exact wX5_tells_b88 X hr hf V (lv_sub hl [0, 1, 2, 3, 4] rfl)
  · replace hf := if_t hf c4
    refine lv_lload (pc := 10) hx hb dX5_tells_10 (lv_at hl 4 rfl) ?_
    cases hf
    exact x_lret (pc := 12) X V hr dX5_tells_12
theorem mX5_tells {nf : Nat} (l : Launch) (D : va_G) (dA : Nat → ClassId) (s0 : Nat) {T : xT} {N : xT} {Z : Nat} {I : xI} {L : xL} {R : xR} {x0 : Nat} {x1 : Int32} {x2 : Int32} {x3 : Int32} {x4 : Int64} {ro : Int64} {Io : xI} {Lo : xL} (hf : fX5_tells nf T N I L R x0 x1 x2 x3 x4 = some (ro, Io, Lo)) : XMet l D dA s0 yX5_tells (ws_ yX5_tells cX5_tells 10 ((some .long))) (4) (93) [.ref x0, .int x1, .int x2, .int x3, .long x4] T N Z I L R (some (.long ro)) T N Z Io Lo R 0 0 :=
  x_start (own := RX5) rfl (by decide) (Nat.le_of_ble_eq_true rfl) (lv := [(0, .ref x0), (1, .int x1), (2, .int x2), (3, .int x3), (4, .long x4)]) rfl (fun p e s m below meth c ls X hr hini V hl => wX5_tells_e X hr hf V hl)
set_option maxHeartbeats 400000 in
set_option maxRecDepth 100000 in
theorem wX5_bounded_e {p : Program} {l : Launch} {e : Env} {s : State} {m : MethodId} {args : Array Value} {below : List Frame} {meth : Method} {c : Code} {D : va_G} {dA : Nat → ClassId} {s0 : Nat} {T : xT} {N : xT} {Z : Nat} {I : xI} {L : xL} {R : xR} {H : Heap} {locs : List Loc} {ls : Array Slot} {x0 : Int64} {x2 : Int32} {x3 : Int32} {ro : Int32} (X : Cx D dA s0 p m c cX5_bounded 4 s args RX5 meth) (hr : meth.sig.returnType = (some .int)) (hf : fX5_bounded x0 x2 x3 = some ro) (V : Iv D dA s0 s T N Z I L R H locs) (hl : lv_has ls 4 [(0, .long x0), (2, .int x2), (3, .int x3)]) : W p l e { frames := 0, cells := 0, slots := 0, locals := 0 } s m args below meth c H locs 0 0 (MQ below (xQ D dA s0 (some (.int ro)) T N Z I L R) args s 0 0 (fun q => s0 ≤ q)) (F0 m 0 ls []) := by
  have hx := X.1.1
  have hb := X.1.2.1
  unfold fX5_bounded at hf
  refine lv_lload_n (pc := 0) hx hb dX5_bounded_0 rfl (lv_at hl 0 rfl) ?_
  refine lv_iload_n (pc := 1) hx hb dX5_bounded_1 rfl (lv_at hl 1 rfl) ?_
  refine lv_i2l (pc := 2) hx hb dX5_bounded_2 rfl ?_
  refine lc_ge (pc := 3) (tgt := 11) hx hb dX5_bounded_3 dX5_bounded_4 (by decide) (fun c1 => ?_) (fun c1 => ?_)
  · replace hf := if_t hf c1
    refine lv_lload_n (pc := 11) hx hb dX5_bounded_11 rfl (lv_at hl 0 rfl) ?_
    refine lv_iload_n (pc := 12) hx hb dX5_bounded_12 rfl (lv_at hl 2 rfl) ?_
    refine lv_i2l (pc := 13) hx hb dX5_bounded_13 rfl ?_
    refine lc_le (pc := 14) (tgt := 22) hx hb dX5_bounded_14 dX5_bounded_15 (by decide) (fun c2 => ?_) (fun c2 => ?_)
    · replace hf := if_t hf c2
      refine lv_lload_n (pc := 22) hx hb dX5_bounded_22 rfl (lv_at hl 0 rfl) ?_
      refine lv_l2i (pc := 23) hx hb dX5_bounded_23 rfl ?_
      cases hf
      exact x_iret (pc := 24) X V hr dX5_bounded_24
    · replace hf := if_f hf c2
      refine lv_iload_n (pc := 18) hx hb dX5_bounded_18 rfl (lv_at hl 2 rfl) ?_
      refine lv_goto (pc := 19) (tgt := 24) hx hb dX5_bounded_19 (by decide) ?_
      cases hf
      exact x_iret (pc := 24) X V hr dX5_bounded_24
  · replace hf := if_f hf c1
    refine lv_iload_n (pc := 7) hx hb dX5_bounded_7 rfl (lv_at hl 1 rfl) ?_
    refine lv_goto (pc := 8) (tgt := 24) hx hb dX5_bounded_8 (by decide) ?_
    cases hf
    exact x_iret (pc := 24) X V hr dX5_bounded_24
theorem mX5_bounded (l : Launch) (D : va_G) (dA : Nat → ClassId) (s0 : Nat) {T : xT} {N : xT} {Z : Nat} {I : xI} {L : xL} {R : xR} {x0 : Int64} {x2 : Int32} {x3 : Int32} {ro : Int32} (hf : fX5_bounded x0 x2 x3 = some ro) : XMet l D dA s0 yX5_bounded (ws_ yX5_bounded cX5_bounded 4 ((some .int))) (0) (0) [.long x0, .int x2, .int x3] T N Z I L R (some (.int ro)) T N Z I L R 0 0 :=
  x_start (own := RX5) rfl (by decide) (Nat.le_of_ble_eq_true rfl) (lv := [(0, .long x0), (2, .int x2), (3, .int x3)]) rfl (fun p e s m below meth c ls X hr hini V hl => wX5_bounded_e X hr hf V hl)
set_option maxHeartbeats 400000 in
set_option maxRecDepth 100000 in
theorem wX5_turnsTo_e {nf : Nat} {p : Program} {l : Launch} {e : Env} {s : State} {m : MethodId} {args : Array Value} {below : List Frame} {meth : Method} {c : Code} {D : va_G} {dA : Nat → ClassId} {s0 : Nat} {T : xT} {N : xT} {Z : Nat} {I : xI} {L : xL} {R : xR} {H : Heap} {locs : List Loc} {ls : Array Slot} {x0 : Nat} {x1 : Int32} {ro : Int32} {Io : xI} {Lo : xL} (X : Cx D dA s0 p m c cX5_turnsTo 2 s args RX5 meth) (hr : meth.sig.returnType = (some .int)) (hf : fX5_turnsTo nf T N I L R x0 x1 = some (ro, Io, Lo)) (V : Iv D dA s0 s T N Z I L R H locs) (hl : lv_has ls 2 [(0, .ref x0), (1, .int x1)]) : W p l e { frames := 5, cells := 0, slots := 0, locals := 122 } s m args below meth c H locs 0 0 (MQ below (xQ D dA s0 (some (.int ro)) T N Z Io Lo R) args s 0 0 (fun q => s0 ≤ q)) (F0 m 0 ls []) := by
  have hx := X.1.1
  have hb := X.1.2.1
  unfold fX5_turnsTo at hf
  refine lv_aload_n (pc := 0) hx hb dX5_turnsTo_0 rfl (lv_at hl 0 rfl) ?_
  refine lv_iconst (pc := 1) (v := (ii 0)) hx hb dX5_turnsTo_1 (by decide) ?_
  refine lv_iload_n (pc := 2) hx hb dX5_turnsTo_2 rfl (lv_at hl 1 rfl) ?_
  refine lv_iconst (pc := 3) (v := (-1 : Int32)) hx hb dX5_turnsTo_3 (by decide) ?_
  refine lv_lconst (pc := 4) (v := (jj 0)) hx hb dX5_turnsTo_4 (by decide) ?_
  replace hf := tg_s hf; obtain ⟨ht5, hf⟩ := hf
  replace hf := b3s hf; obtain ⟨r1, I2, L3, hk_4, hf⟩ := hf
  refine x_callV0 (pc := 5) (As := [.int (ii 0), .int x1, .int (-1 : Int32), .long (jj 0)]) (rest := []) X V (mX5_tells l D dA s0 hk_4) okX5 ht5 q1762 q1764 qs52 q129 q1765 ⟨rfl, hsX5_tells⟩ ⟨Nat.le_of_ble_eq_true rfl, Nat.le_of_ble_eq_true rfl⟩ rfl hl.1 rfl (Nat.le_of_ble_eq_true rfl) dX5_turnsTo_5 ⟨Nat.zero_le _, Nat.zero_le _⟩ (fun H locs V => W.eq (g2 := F0 m 8 ls [.long r1]) rfl ?_)
  refine lv_iconst (pc := 8) (v := (ii 0)) hx hb dX5_turnsTo_8 (by decide) ?_
  refine lv_bipush (pc := 9) (v := (ii 99)) hx hb dX5_turnsTo_9 (by decide) ?_
  replace hf := bs hf; obtain ⟨r6, hk_7, hf⟩ := hf
  refine x_callS0 (pc := 11) (As := [.long r1, .int (ii 0), .int (ii 99)]) (rest := []) X V (mX5_bounded l D dA s0 hk_7) q1781 q1782 q129 q1783 hsX5_bounded ⟨Nat.le_of_ble_eq_true rfl, Nat.le_of_ble_eq_true rfl⟩ rfl hl.1 rfl (Nat.le_of_ble_eq_true rfl) dX5_turnsTo_11 ⟨Nat.zero_le _, Nat.zero_le _⟩ (fun H locs V => W.eq (g2 := F0 m 14 ls [.int r6]) rfl ?_)
  cases hf
  exact x_iret (pc := 14) X V hr dX5_turnsTo_14
theorem mX5_turnsTo {nf : Nat} (l : Launch) (D : va_G) (dA : Nat → ClassId) (s0 : Nat) {T : xT} {N : xT} {Z : Nat} {I : xI} {L : xL} {R : xR} {x0 : Nat} {x1 : Int32} {ro : Int32} {Io : xI} {Lo : xL} (hf : fX5_turnsTo nf T N I L R x0 x1 = some (ro, Io, Lo)) : XMet l D dA s0 yX5_turnsTo (ws_ yX5_turnsTo cX5_turnsTo 2 ((some .int))) (5) (122) [.ref x0, .int x1] T N Z I L R (some (.int ro)) T N Z Io Lo R 0 0 :=
  x_start (own := RX5) rfl (by decide) (Nat.le_of_ble_eq_true rfl) (lv := [(0, .ref x0), (1, .int x1)]) rfl (fun p e s m below meth c ls X hr hini V hl => wX5_turnsTo_e X hr hf V hl)
set_option maxHeartbeats 400000 in
set_option maxRecDepth 100000 in
theorem wX5_ends_e {p : Program} {l : Launch} {e : Env} {s : State} {m : MethodId} {args : Array Value} {below : List Frame} {meth : Method} {c : Code} {D : va_G} {dA : Nat → ClassId} {s0 : Nat} {T : xT} {N : xT} {Z : Nat} {I : xI} {L : xL} {R : xR} {H : Heap} {locs : List Loc} {ls : Array Slot} {x0 : Nat} {x1 : Int32} {x2 : Int32} {ro : Int32} (X : Cx D dA s0 p m c cX5_ends 3 s args RX5 meth) (hr : meth.sig.returnType = (some .boolean)) (hf : fX5_ends T N I R x0 x1 x2 = some ro) (V : Iv D dA s0 s T N Z I L R H locs) (hl : lv_has ls 3 [(0, .ref x0), (1, .int x1), (2, .int x2)]) : W p l e { frames := 0, cells := 0, slots := 0, locals := 0 } s m args below meth c H locs 0 0 (MQ below (xQ D dA s0 (some (.int ro)) T N Z I L R) args s 0 0 (fun q => s0 ≤ q)) (F0 m 0 ls []) := by
  have hx := X.1.1
  have hb := X.1.2.1
  unfold fX5_ends at hf
  refine lv_aload_n (pc := 0) hx hb dX5_ends_0 rfl (lv_at hl 0 rfl) ?_
  replace hf := tg_s hf; obtain ⟨ht1, hf⟩ := hf
  replace hf := bs hf; obtain ⟨a2, ha2, hf⟩ := hf
  refine x_get (pc := 1) X V okX5 ht1 3 (by decide) q1524 (v := va_rf (R x0 3)) rfl dX5_ends_1 ?_
  refine x_topr ha2 ?_
  refine lv_bipush (pc := 4) (v := (ii 26)) hx hb dX5_ends_4 (by decide) ?_
  refine lv_iload_n (pc := 6) hx hb dX5_ends_6 rfl (lv_at hl 1 rfl) ?_
  refine lv_iadd (pc := 7) hx hb dX5_ends_7 ?_
  replace hf := rA_s hf; obtain ⟨j3, hjj3, htj3, hij3, hf⟩ := hf
  refine x_iald (pc := 8) X V htj3 hij3 hjj3 dX5_ends_8 ?_
  refine lv_iload_n (pc := 9) hx hb dX5_ends_9 rfl (lv_at hl 2 rfl) ?_
  refine lv_icmp_eq (pc := 10) (tgt := 26) hx hb dX5_ends_10 (by decide) (fun c4 => ?_) (fun c4 => ?_)
  · replace hf := if_t hf c4
    refine lv_iconst (pc := 26) (v := (ii 1)) hx hb dX5_ends_26 (by decide) ?_
    refine lv_goto (pc := 27) (tgt := 31) hx hb dX5_ends_27 (by decide) ?_
    cases hf
    exact x_zret (pc := 31) X V hr (by decide) dX5_ends_31
  · replace hf := if_f hf c4
    refine lv_aload_n (pc := 13) hx hb dX5_ends_13 rfl (lv_at hl 0 rfl) ?_
    refine x_get (pc := 14) X V okX5 ht1 3 (by decide) q1524 (v := va_rf (R x0 3)) rfl dX5_ends_14 ?_
    refine x_topr ha2 ?_
    refine lv_bipush (pc := 17) (v := (ii 36)) hx hb dX5_ends_17 (by decide) ?_
    refine lv_iload_n (pc := 19) hx hb dX5_ends_19 rfl (lv_at hl 1 rfl) ?_
    refine lv_iadd (pc := 20) hx hb dX5_ends_20 ?_
    replace hf := rA_s hf; obtain ⟨j5, hjj5, htj5, hij5, hf⟩ := hf
    refine x_iald (pc := 21) X V htj5 hij5 hjj5 dX5_ends_21 ?_
    refine lv_iload_n (pc := 22) hx hb dX5_ends_22 rfl (lv_at hl 2 rfl) ?_
    refine lv_icmp_ne (pc := 23) (tgt := 30) hx hb dX5_ends_23 (by decide) (fun c6 => ?_) (fun c6 => ?_)
    · replace hf := if_f hf c6
      refine lv_iconst (pc := 30) (v := (ii 0)) hx hb dX5_ends_30 (by decide) ?_
      cases hf
      exact x_zret (pc := 31) X V hr (by decide) dX5_ends_31
    · replace hf := if_t hf c6
      refine lv_iconst (pc := 26) (v := (ii 1)) hx hb dX5_ends_26 (by decide) ?_
      refine lv_goto (pc := 27) (tgt := 31) hx hb dX5_ends_27 (by decide) ?_
      cases hf
      exact x_zret (pc := 31) X V hr (by decide) dX5_ends_31
theorem mX5_ends (l : Launch) (D : va_G) (dA : Nat → ClassId) (s0 : Nat) {T : xT} {N : xT} {Z : Nat} {I : xI} {L : xL} {R : xR} {x0 : Nat} {x1 : Int32} {x2 : Int32} {ro : Int32} (hf : fX5_ends T N I R x0 x1 x2 = some ro) : XMet l D dA s0 yX5_ends (ws_ yX5_ends cX5_ends 3 ((some .boolean))) (0) (0) [.ref x0, .int x1, .int x2] T N Z I L R (some (.int ro)) T N Z I L R 0 0 :=
  x_start (own := RX5) rfl (by decide) (Nat.le_of_ble_eq_true rfl) (lv := [(0, .ref x0), (1, .int x1), (2, .int x2)]) rfl (fun p e s m below meth c ls X hr hini V hl => wX5_ends_e X hr hf V hl)
set_option maxHeartbeats 400000 in
set_option maxRecDepth 100000 in
theorem wX5_isBarred_e {nf : Nat} {p : Program} {l : Launch} {e : Env} {s : State} {m : MethodId} {args : Array Value} {below : List Frame} {meth : Method} {c : Code} {D : va_G} {dA : Nat → ClassId} {s0 : Nat} {T : xT} {N : xT} {Z : Nat} {I : xI} {L : xL} {R : xR} {H : Heap} {locs : List Loc} {ls : Array Slot} {x0 : Nat} {x1 : Int32} {x2 : Int32} {ro : Int32} {Io : xI} {Lo : xL} (X : Cx D dA s0 p m c cX5_isBarred 3 s args RX5 meth) (hr : meth.sig.returnType = (some .boolean)) (hf : fX5_isBarred nf T N I L R x0 x1 x2 = some (ro, Io, Lo)) (V : Iv D dA s0 s T N Z I L R H locs) (hl : lv_has ls 3 [(0, .ref x0), (1, .int x1), (2, .int x2)]) : W p l e { frames := 5, cells := 0, slots := 0, locals := 122 } s m args below meth c H locs 0 0 (MQ below (xQ D dA s0 (some (.int ro)) T N Z Io Lo R) args s 0 0 (fun q => s0 ≤ q)) (F0 m 0 ls []) := by
  have hx := X.1.1
  have hb := X.1.2.1
  unfold fX5_isBarred at hf
  refine lv_aload_n (pc := 0) hx hb dX5_isBarred_0 rfl (lv_at hl 0 rfl) ?_
  refine lv_iconst (pc := 1) (v := (ii 2)) hx hb dX5_isBarred_1 (by decide) ?_
  refine lv_iload_n (pc := 2) hx hb dX5_isBarred_2 rfl (lv_at hl 1 rfl) ?_
  refine lv_iload_n (pc := 3) hx hb dX5_isBarred_3 rfl (lv_at hl 2 rfl) ?_
  refine lv_lconst (pc := 4) (v := (jj 0)) hx hb dX5_isBarred_4 (by decide) ?_
  replace hf := tg_s hf; obtain ⟨ht5, hf⟩ := hf
  replace hf := b3s hf; obtain ⟨r1, I2, L3, hk_4, hf⟩ := hf
  refine x_callV0 (pc := 5) (As := [.int (ii 2), .int x1, .int x2, .long (jj 0)]) (rest := []) X V (mX5_tells l D dA s0 hk_4) okX5 ht5 q1762 q1764 qs52 q129 q1765 ⟨rfl, hsX5_tells⟩ ⟨Nat.le_of_ble_eq_true rfl, Nat.le_of_ble_eq_true rfl⟩ rfl hl.1 rfl (Nat.le_of_ble_eq_true rfl) dX5_isBarred_5 ⟨Nat.zero_le _, Nat.zero_le _⟩ (fun H locs V => W.eq (g2 := F0 m 8 ls [.long r1]) rfl ?_)
  refine lv_lconst (pc := 8) (v := (jj 1)) hx hb dX5_isBarred_8 (by decide) ?_
  refine lc_ne (pc := 9) (tgt := 17) hx hb dX5_isBarred_9 dX5_isBarred_10 (by decide) (fun c6 => ?_) (fun c6 => ?_)
  · replace hf := if_f hf c6
    refine lv_iconst (pc := 17) (v := (ii 0)) hx hb dX5_isBarred_17 (by decide) ?_
    cases hf
    exact x_zret (pc := 18) X V hr (by decide) dX5_isBarred_18
  · replace hf := if_t hf c6
    refine lv_iconst (pc := 13) (v := (ii 1)) hx hb dX5_isBarred_13 (by decide) ?_
    refine lv_goto (pc := 14) (tgt := 18) hx hb dX5_isBarred_14 (by decide) ?_
    cases hf
    exact x_zret (pc := 18) X V hr (by decide) dX5_isBarred_18
theorem mX5_isBarred {nf : Nat} (l : Launch) (D : va_G) (dA : Nat → ClassId) (s0 : Nat) {T : xT} {N : xT} {Z : Nat} {I : xI} {L : xL} {R : xR} {x0 : Nat} {x1 : Int32} {x2 : Int32} {ro : Int32} {Io : xI} {Lo : xL} (hf : fX5_isBarred nf T N I L R x0 x1 x2 = some (ro, Io, Lo)) : XMet l D dA s0 yX5_isBarred (ws_ yX5_isBarred cX5_isBarred 3 ((some .boolean))) (5) (122) [.ref x0, .int x1, .int x2] T N Z I L R (some (.int ro)) T N Z Io Lo R 0 0 :=
  x_start (own := RX5) rfl (by decide) (Nat.le_of_ble_eq_true rfl) (lv := [(0, .ref x0), (1, .int x1), (2, .int x2)]) rfl (fun p e s m below meth c ls X hr hini V hl => wX5_isBarred_e X hr hf V hl)
set_option maxHeartbeats 400000 in
set_option maxRecDepth 100000 in
theorem wX5_canGo_e {nf : Nat} {p : Program} {l : Launch} {e : Env} {s : State} {m : MethodId} {args : Array Value} {below : List Frame} {meth : Method} {c : Code} {D : va_G} {dA : Nat → ClassId} {s0 : Nat} {T : xT} {N : xT} {Z : Nat} {I : xI} {L : xL} {R : xR} {H : Heap} {locs : List Loc} {ls : Array Slot} {x0 : Nat} {x1 : Int32} {x2 : Int32} {ro : Int32} {Io : xI} {Lo : xL} (X : Cx D dA s0 p m c cX5_canGo 3 s args RX5 meth) (hr : meth.sig.returnType = (some .boolean)) (hf : fX5_canGo nf T N I L R x0 x1 x2 = some (ro, Io, Lo)) (V : Iv D dA s0 s T N Z I L R H locs) (hl : lv_has ls 3 [(0, .ref x0), (1, .int x1), (2, .int x2)]) : W p l e { frames := 6, cells := 0, slots := 0, locals := 144 } s m args below meth c H locs 0 0 (MQ below (xQ D dA s0 (some (.int ro)) T N Z Io Lo R) args s 0 0 (fun q => s0 ≤ q)) (F0 m 0 ls []) := by
  have hx := X.1.1
  have hb := X.1.2.1
  unfold fX5_canGo at hf
  refine lv_aload_n (pc := 0) hx hb dX5_canGo_0 rfl (lv_at hl 0 rfl) ?_
  refine lv_iload_n (pc := 1) hx hb dX5_canGo_1 rfl (lv_at hl 2 rfl) ?_
  refine lv_aload_n (pc := 2) hx hb dX5_canGo_2 rfl (lv_at hl 0 rfl) ?_
  replace hf := tg_s hf; obtain ⟨ht1, hf⟩ := hf
  replace hf := bs hf; obtain ⟨a2, ha2, hf⟩ := hf
  refine x_get (pc := 3) X V okX5 ht1 3 (by decide) q1524 (v := va_rf (R x0 3)) rfl dX5_canGo_3 ?_
  refine x_topr ha2 ?_
  refine lv_bipush (pc := 6) (v := (ii 18)) hx hb dX5_canGo_6 (by decide) ?_
  refine lv_iload_n (pc := 8) hx hb dX5_canGo_8 rfl (lv_at hl 1 rfl) ?_
  refine lv_iadd (pc := 9) hx hb dX5_canGo_9 ?_
  replace hf := rA_s hf; obtain ⟨j3, hjj3, htj3, hij3, hf⟩ := hf
  refine x_iald (pc := 10) X V htj3 hij3 hjj3 dX5_canGo_10 ?_
  replace hf := bs hf; obtain ⟨r4, hk_5, hf⟩ := hf
  refine x_callV0 (pc := 11) (As := [.int x2, .int (I a2 j3)]) (rest := []) X V (mX5_ends l D dA s0 hk_5) okX5 ht1 q1792 q1794 qs58 q129 q1795 ⟨rfl, hsX5_ends⟩ ⟨Nat.le_of_ble_eq_true rfl, Nat.le_of_ble_eq_true rfl⟩ rfl hl.1 rfl (Nat.le_of_ble_eq_true rfl) dX5_canGo_11 ⟨Nat.zero_le _, Nat.zero_le _⟩ (fun H locs V => W.eq (g2 := F0 m 14 ls [.int r4]) rfl ?_)
  refine lv_if_eq (pc := 14) (tgt := 30) hx hb dX5_canGo_14 (by decide) (fun c6 => ?_) (fun c6 => ?_)
  · replace hf := if_t hf c6
    refine lv_iconst (pc := 30) (v := (ii 0)) hx hb dX5_canGo_30 (by decide) ?_
    cases hf
    exact x_zret (pc := 31) X V hr (by decide) dX5_canGo_31
  · replace hf := if_f hf c6
    refine lv_aload_n (pc := 17) hx hb dX5_canGo_17 rfl (lv_at hl 0 rfl) ?_
    refine lv_iload_n (pc := 18) hx hb dX5_canGo_18 rfl (lv_at hl 1 rfl) ?_
    refine lv_iload_n (pc := 19) hx hb dX5_canGo_19 rfl (lv_at hl 2 rfl) ?_
    replace hf := b3s hf; obtain ⟨r7, I8, L9, hk_10, hf⟩ := hf
    refine x_callV0 (pc := 20) (As := [.int x1, .int x2]) (rest := []) X V (mX5_isBarred l D dA s0 hk_10) okX5 ht1 q1796 q1798 qs59 q129 q1799 ⟨rfl, hsX5_isBarred⟩ ⟨Nat.le_of_ble_eq_true rfl, Nat.le_of_ble_eq_true rfl⟩ rfl hl.1 rfl (Nat.le_of_ble_eq_true rfl) dX5_canGo_20 ⟨Nat.zero_le _, Nat.zero_le _⟩ (fun H locs V => W.eq (g2 := F0 m 23 ls [.int r7]) rfl ?_)
    refine lv_if_ne (pc := 23) (tgt := 30) hx hb dX5_canGo_23 (by decide) (fun c11 => ?_) (fun c11 => ?_)
    · replace hf := if_f hf c11
      refine lv_iconst (pc := 30) (v := (ii 0)) hx hb dX5_canGo_30 (by decide) ?_
      cases hf
      exact x_zret (pc := 31) X V hr (by decide) dX5_canGo_31
    · replace hf := if_t hf c11
      refine lv_iconst (pc := 26) (v := (ii 1)) hx hb dX5_canGo_26 (by decide) ?_
      refine lv_goto (pc := 27) (tgt := 31) hx hb dX5_canGo_27 (by decide) ?_
      cases hf
      exact x_zret (pc := 31) X V hr (by decide) dX5_canGo_31
theorem mX5_canGo {nf : Nat} (l : Launch) (D : va_G) (dA : Nat → ClassId) (s0 : Nat) {T : xT} {N : xT} {Z : Nat} {I : xI} {L : xL} {R : xR} {x0 : Nat} {x1 : Int32} {x2 : Int32} {ro : Int32} {Io : xI} {Lo : xL} (hf : fX5_canGo nf T N I L R x0 x1 x2 = some (ro, Io, Lo)) : XMet l D dA s0 yX5_canGo (ws_ yX5_canGo cX5_canGo 3 ((some .boolean))) (6) (144) [.ref x0, .int x1, .int x2] T N Z I L R (some (.int ro)) T N Z Io Lo R 0 0 :=
  x_start (own := RX5) rfl (by decide) (Nat.le_of_ble_eq_true rfl) (lv := [(0, .ref x0), (1, .int x1), (2, .int x2)]) rfl (fun p e s m below meth c ls X hr hini V hl => wX5_canGo_e X hr hf V hl)
set_option maxHeartbeats 400000 in
set_option maxRecDepth 100000 in
theorem wX5_laneOf_b57 {nf : Nat} {p : Program} {l : Launch} {e : Env} {s : State} {m : MethodId} {args : Array Value} {below : List Frame} {meth : Method} {c : Code} {D : va_G} {dA : Nat → ClassId} {s0 : Nat} {T : xT} {N : xT} {Z : Nat} {R : xR}  {ro : Int32} {Io : xI} {Lo : xL} (X : Cx D dA s0 p m c cX5_laneOf 6 s args RX5 meth) (hr : meth.sig.returnType = (some .int))   (k : Nat) : ∀ {I : xI} {L : xL} {x0 : Nat} {x1 : Int32} {x3 : Int32} {x4 : Int32} {x5 : Int32} {H : Heap} {locs : List Loc} {ls : Array Slot} , fX5_laneOf_b57 nf T N R k I L x0 x1 x3 x4 x5 = some (ro, Io, Lo) → Iv D dA s0 s T N Z I L R H locs → lv_has ls 6 [(0, .ref x0), (1, .int x1), (3, .int x3), (4, .int x4), (5, .int x5)] → W p l e { frames := 7, cells := 0, slots := 0, locals := 166 } s m args below meth c H locs 0 0 (MQ below (xQ D dA s0 (some (.int ro)) T N Z Io Lo R) args s 0 0 (fun q => s0 ≤ q)) (F0 m 57 ls []) := by
  have hx := X.1.1
  have hb := X.1.2.1
  induction k with
  | zero =>
    intro I L x0 x1 x3 x4 x5 H locs ls hf V hl
    exact absurd (show none = some _ from hf) (fun q => nomatch q)
  | succ k ih =>
    intro I L x0 x1 x3 x4 x5 H locs ls hf V hl
    rw [fX5_laneOf_b57] at hf
    refine lv_iload (pc := 57) hx hb dX5_laneOf_57 (lv_at hl 4 rfl) ?_
    refine lv_aload_n (pc := 59) hx hb dX5_laneOf_59 rfl (lv_at hl 0 rfl) ?_
    replace hf := tg_s hf; obtain ⟨ht1, hf⟩ := hf
    replace hf := bs hf; obtain ⟨a2, ha2, hf⟩ := hf
    refine x_get (pc := 60) X V okX5 ht1 3 (by decide) q1524 (v := va_rf (R x0 3)) rfl dX5_laneOf_60 ?_
    refine x_topr ha2 ?_
    refine lv_iconst (pc := 63) (v := (ii 0)) hx hb dX5_laneOf_63 (by decide) ?_
    replace hf := rA_s hf; obtain ⟨j3, hjj3, htj3, hij3, hf⟩ := hf
    refine x_iald (pc := 64) X V htj3 hij3 hjj3 dX5_laneOf_64 ?_
    refine lv_icmp_ge (pc := 65) (tgt := 100) hx hb dX5_laneOf_65 (by decide) (fun c4 => ?_) (fun c4 => ?_)
    · replace hf := if_t hf c4
      refine lv_iload (pc := 100) hx hb dX5_laneOf_100 (lv_at hl 3 rfl) ?_
      cases hf
      exact x_iret (pc := 102) X V hr dX5_laneOf_102
    · replace hf := if_f hf c4
      refine lv_aload_n (pc := 68) hx hb dX5_laneOf_68 rfl (lv_at hl 0 rfl) ?_
      refine lv_iload_n (pc := 69) hx hb dX5_laneOf_69 rfl (lv_at hl 1 rfl) ?_
      refine lv_iload (pc := 70) hx hb dX5_laneOf_70 (lv_at hl 4 rfl) ?_
      replace hf := b3s hf; obtain ⟨r5, I6, L7, hk_8, hf⟩ := hf
      refine x_callV0 (pc := 72) (As := [.int x1, .int x5]) (rest := []) X V (mX5_canGo l D dA s0 hk_8) okX5 ht1 q1788 q1790 qs57 q129 q1791 ⟨rfl, hsX5_canGo⟩ ⟨Nat.le_of_ble_eq_true rfl, Nat.le_of_ble_eq_true rfl⟩ rfl hl.1 rfl (Nat.le_of_ble_eq_true rfl) dX5_laneOf_72 ⟨Nat.zero_le _, Nat.zero_le _⟩ (fun H locs V => W.eq (g2 := F0 m 75 ls [.int r5]) rfl ?_)
      refine lv_if_eq (pc := 75) (tgt := 94) hx hb dX5_laneOf_75 (by decide) (fun c9 => ?_) (fun c9 => ?_)
      · replace hf := if_t hf c9
        replace hf := nm_s hf; obtain ⟨u10, hu10, hf⟩ := hf
        refine lv_iinc (pc := 94) (v := u10) (lv' := [(5, .int u10), (0, .ref x0), (1, .int x1), (3, .int x3), (4, .int x4)]) hx hb dX5_laneOf_94 hl (k := 4) rfl (by rw [hu10]; rfl) (by decide) rfl (fun ls hl => ?_)
        refine lv_goto (pc := 97) (tgt := 57) hx hb dX5_laneOf_97 (by decide) ?_
        exact ih hf V (lv_sub hl [1, 2, 3, 4, 0] rfl)
      · replace hf := if_f hf c9
        refine lv_iload_n (pc := 78) hx hb dX5_laneOf_78 rfl (lv_at hl 2 rfl) ?_
        refine lv_if_ne (pc := 79) (tgt := 87) hx hb dX5_laneOf_79 (by decide) (fun c11 => ?_) (fun c11 => ?_)
        · replace hf := if_f hf c11
          refine lv_iload (pc := 87) hx hb dX5_laneOf_87 (lv_at hl 3 rfl) ?_
          refine lv_istore (pc := 89) (lv' := [(4, .int x4), (0, .ref x0), (1, .int x1), (3, .int x3), (5, .int x5)]) hx hb dX5_laneOf_89 hl (by decide) rfl (fun ls hl => ?_)
          replace hf := nm_s hf; obtain ⟨u12, hu12, hf⟩ := hf
          refine lv_iinc (pc := 91) (v := u12) (lv' := [(3, .int u12), (4, .int x4), (0, .ref x0), (1, .int x1), (5, .int x5)]) hx hb dX5_laneOf_91 hl (k := 3) rfl (by rw [hu12]; rfl) (by decide) rfl (fun ls hl => ?_)
          replace hf := nm_s hf; obtain ⟨u13, hu13, hf⟩ := hf
          refine lv_iinc (pc := 94) (v := u13) (lv' := [(5, .int u13), (3, .int u12), (4, .int x4), (0, .ref x0), (1, .int x1)]) hx hb dX5_laneOf_94 hl (k := 4) rfl (by rw [hu13]; rfl) (by decide) rfl (fun ls hl => ?_)
          refine lv_goto (pc := 97) (tgt := 57) hx hb dX5_laneOf_97 (by decide) ?_
          exact ih hf V (lv_sub hl [3, 4, 1, 2, 0] rfl)
        · replace hf := if_t hf c11
          refine lv_iload (pc := 82) hx hb dX5_laneOf_82 (lv_at hl 4 rfl) ?_
          refine lv_goto (pc := 84) (tgt := 89) hx hb dX5_laneOf_84 (by decide) ?_
          refine lv_istore (pc := 89) (lv' := [(4, .int x5), (0, .ref x0), (1, .int x1), (3, .int x3), (5, .int x5)]) hx hb dX5_laneOf_89 hl (by decide) rfl (fun ls hl => ?_)
          replace hf := nm_s hf; obtain ⟨u14, hu14, hf⟩ := hf
          refine lv_iinc (pc := 91) (v := u14) (lv' := [(3, .int u14), (4, .int x5), (0, .ref x0), (1, .int x1), (5, .int x5)]) hx hb dX5_laneOf_91 hl (k := 3) rfl (by rw [hu14]; rfl) (by decide) rfl (fun ls hl => ?_)
          replace hf := nm_s hf; obtain ⟨u15, hu15, hf⟩ := hf
          refine lv_iinc (pc := 94) (v := u15) (lv' := [(5, .int u15), (3, .int u14), (4, .int x5), (0, .ref x0), (1, .int x1)]) hx hb dX5_laneOf_94 hl (k := 4) rfl (by rw [hu15]; rfl) (by decide) rfl (fun ls hl => ?_)
          refine lv_goto (pc := 97) (tgt := 57) hx hb dX5_laneOf_97 (by decide) ?_
          exact ih hf V (lv_sub hl [3, 4, 1, 2, 0] rfl)
set_option maxHeartbeats 400000 in
set_option maxRecDepth 100000 in
theorem wX5_laneOf_b4 {nf : Nat} {p : Program} {l : Launch} {e : Env} {s : State} {m : MethodId} {args : Array Value} {below : List Frame} {meth : Method} {c : Code} {D : va_G} {dA : Nat → ClassId} {s0 : Nat} {T : xT} {N : xT} {Z : Nat} {R : xR}  {ro : Int32} {Io : xI} {Lo : xL} (X : Cx D dA s0 p m c cX5_laneOf 6 s args RX5 meth) (hr : meth.sig.returnType = (some .int))   (k : Nat) : ∀ {I : xI} {L : xL} {x0 : Nat} {x1 : Int32} {x2 : Int32} {x3 : Int32} {H : Heap} {locs : List Loc} {ls : Array Slot} , fX5_laneOf_b4 nf T N R k I L x0 x1 x2 x3 = some (ro, Io, Lo) → Iv D dA s0 s T N Z I L R H locs → lv_has ls 6 [(0, .ref x0), (1, .int x1), (2, .int x2), (3, .int x3)] → W p l e { frames := 7, cells := 0, slots := 0, locals := 166 } s m args below meth c H locs 0 0 (MQ below (xQ D dA s0 (some (.int ro)) T N Z Io Lo R) args s 0 0 (fun q => s0 ≤ q)) (F0 m 4 ls []) := by
  have hx := X.1.1
  have hb := X.1.2.1
  induction k with
  | zero =>
    intro I L x0 x1 x2 x3 H locs ls hf V hl
    exact absurd (show none = some _ from hf) (fun q => nomatch q)
  | succ k ih =>
    intro I L x0 x1 x2 x3 H locs ls hf V hl
    rw [fX5_laneOf_b4] at hf
    refine lv_iload_n (pc := 4) hx hb dX5_laneOf_4 rfl (lv_at hl 3 rfl) ?_
    refine lv_aload_n (pc := 5) hx hb dX5_laneOf_5 rfl (lv_at hl 0 rfl) ?_
    replace hf := tg_s hf; obtain ⟨ht1, hf⟩ := hf
    replace hf := bs hf; obtain ⟨a2, ha2, hf⟩ := hf
    refine x_get (pc := 6) X V okX5 ht1 3 (by decide) q1524 (v := va_rf (R x0 3)) rfl dX5_laneOf_6 ?_
    refine x_topr ha2 ?_
    refine lv_iconst (pc := 9) (v := (ii 0)) hx hb dX5_laneOf_9 (by decide) ?_
    replace hf := rA_s hf; obtain ⟨j3, hjj3, htj3, hij3, hf⟩ := hf
    refine x_iald (pc := 10) X V htj3 hij3 hjj3 dX5_laneOf_10 ?_
    refine lv_icmp_ge (pc := 11) (tgt := 37) hx hb dX5_laneOf_11 (by decide) (fun c4 => ?_) (fun c4 => ?_)
    · replace hf := if_t hf c4
      refine lv_iload_n (pc := 37) hx hb dX5_laneOf_37 rfl (lv_at hl 2 rfl) ?_
      refine lv_if_ne (pc := 38) (tgt := 43) hx hb dX5_laneOf_38 (by decide) (fun c5 => ?_) (fun c5 => ?_)
      · replace hf := if_f hf c5
        refine lv_aload_n (pc := 43) hx hb dX5_laneOf_43 rfl (lv_at hl 0 rfl) ?_
        refine lv_iload_n (pc := 44) hx hb dX5_laneOf_44 rfl (lv_at hl 1 rfl) ?_
        replace hf := b3s hf; obtain ⟨r6, I7, L8, hk_9, hf⟩ := hf
        refine x_callV0 (pc := 45) (As := [.int x1]) (rest := []) X V (mX5_turnsTo l D dA s0 hk_9) okX5 ht1 q1758 q1760 qs51 q129 q1761 ⟨rfl, hsX5_turnsTo⟩ ⟨Nat.le_of_ble_eq_true rfl, Nat.le_of_ble_eq_true rfl⟩ rfl hl.1 rfl (Nat.le_of_ble_eq_true rfl) dX5_laneOf_45 ⟨Nat.zero_le _, Nat.zero_le _⟩ (fun H locs V => W.eq (g2 := F0 m 48 ls [.int r6]) rfl ?_)
        refine lv_iload_n (pc := 48) hx hb dX5_laneOf_48 rfl (lv_at hl 2 rfl) ?_
        replace hf := chk_s hf; obtain ⟨hc10, hf⟩ := hf
        refine lv_irem (pc := 49) hx hb dX5_laneOf_49 (of_decide_eq_true hc10) ?_
        replace hf := nm_s hf; obtain ⟨u11, hu11, hf⟩ := hf
        refine x_topi hu11 ?_
        refine lv_istore_n (pc := 50) (lv' := [(3, .int u11), (0, .ref x0), (1, .int x1), (2, .int x2)]) hx hb dX5_laneOf_50 rfl hl (by decide) rfl (fun ls hl => ?_)
        refine lv_iconst (pc := 51) (v := (-1 : Int32)) hx hb dX5_laneOf_51 (by decide) ?_
        refine lv_istore (pc := 52) (lv' := [(4, .int (-1 : Int32)), (3, .int u11), (0, .ref x0), (1, .int x1), (2, .int x2)]) hx hb dX5_laneOf_52 hl (by decide) rfl (fun ls hl => ?_)
        refine lv_iconst (pc := 54) (v := (ii 0)) hx hb dX5_laneOf_54 (by decide) ?_
        refine lv_istore (pc := 55) (lv' := [(5, .int (ii 0)), (4, .int (-1 : Int32)), (3, .int u11), (0, .ref x0), (1, .int x1), (2, .int x2)]) hx hb dX5_laneOf_55 hl (by decide) rfl (fun ls hl => ?_)
        exact wX5_laneOf_b57 X hr nf hf V (lv_sub hl [3, 4, 2, 1, 0] rfl)
      · replace hf := if_t hf c5
        refine lv_iconst (pc := 41) (v := (-1 : Int32)) hx hb dX5_laneOf_41 (by decide) ?_
        cases hf
        exact x_iret (pc := 42) X V hr dX5_laneOf_42
    · replace hf := if_f hf c4
      refine lv_iload_n (pc := 14) hx hb dX5_laneOf_14 rfl (lv_at hl 2 rfl) ?_
      refine lv_aload_n (pc := 15) hx hb dX5_laneOf_15 rfl (lv_at hl 0 rfl) ?_
      refine lv_iload_n (pc := 16) hx hb dX5_laneOf_16 rfl (lv_at hl 1 rfl) ?_
      refine lv_iload_n (pc := 17) hx hb dX5_laneOf_17 rfl (lv_at hl 3 rfl) ?_
      replace hf := b3s hf; obtain ⟨r12, I13, L14, hk_15, hf⟩ := hf
      refine x_callV0 (pc := 18) (As := [.int x1, .int x3]) (rest := [.int x2]) X V (mX5_canGo l D dA s0 hk_15) okX5 ht1 q1788 q1790 qs57 q129 q1791 ⟨rfl, hsX5_canGo⟩ ⟨Nat.le_of_ble_eq_true rfl, Nat.le_of_ble_eq_true rfl⟩ rfl hl.1 rfl (Nat.le_of_ble_eq_true rfl) dX5_laneOf_18 ⟨Nat.zero_le _, Nat.zero_le _⟩ (fun H locs V => W.eq (g2 := F0 m 21 ls [.int r12, .int x2]) rfl ?_)
      refine lv_if_eq (pc := 21) (tgt := 28) hx hb dX5_laneOf_21 (by decide) (fun c16 => ?_) (fun c16 => ?_)
      · replace hf := if_t hf c16
        refine lv_iconst (pc := 28) (v := (ii 0)) hx hb dX5_laneOf_28 (by decide) ?_
        refine lv_iadd (pc := 29) hx hb dX5_laneOf_29 ?_
        replace hf := nm_s hf; obtain ⟨u17, hu17, hf⟩ := hf
        refine x_topi hu17 ?_
        refine lv_istore_n (pc := 30) (lv' := [(2, .int u17), (0, .ref x0), (1, .int x1), (3, .int x3)]) hx hb dX5_laneOf_30 rfl hl (by decide) rfl (fun ls hl => ?_)
        replace hf := nm_s hf; obtain ⟨u18, hu18, hf⟩ := hf
        refine lv_iinc (pc := 31) (v := u18) (lv' := [(3, .int u18), (2, .int u17), (0, .ref x0), (1, .int x1)]) hx hb dX5_laneOf_31 hl (k := 3) rfl (by rw [hu18]; rfl) (by decide) rfl (fun ls hl => ?_)
        refine lv_goto (pc := 34) (tgt := 4) hx hb dX5_laneOf_34 (by decide) ?_
        exact ih hf V (lv_sub hl [2, 3, 1, 0] rfl)
      · replace hf := if_f hf c16
        refine lv_iconst (pc := 24) (v := (ii 1)) hx hb dX5_laneOf_24 (by decide) ?_
        refine lv_goto (pc := 25) (tgt := 29) hx hb dX5_laneOf_25 (by decide) ?_
        refine lv_iadd (pc := 29) hx hb dX5_laneOf_29 ?_
        replace hf := nm_s hf; obtain ⟨u19, hu19, hf⟩ := hf
        refine x_topi hu19 ?_
        refine lv_istore_n (pc := 30) (lv' := [(2, .int u19), (0, .ref x0), (1, .int x1), (3, .int x3)]) hx hb dX5_laneOf_30 rfl hl (by decide) rfl (fun ls hl => ?_)
        replace hf := nm_s hf; obtain ⟨u20, hu20, hf⟩ := hf
        refine lv_iinc (pc := 31) (v := u20) (lv' := [(3, .int u20), (2, .int u19), (0, .ref x0), (1, .int x1)]) hx hb dX5_laneOf_31 hl (k := 3) rfl (by rw [hu20]; rfl) (by decide) rfl (fun ls hl => ?_)
        refine lv_goto (pc := 34) (tgt := 4) hx hb dX5_laneOf_34 (by decide) ?_
        exact ih hf V (lv_sub hl [2, 3, 1, 0] rfl)
set_option maxHeartbeats 400000 in
set_option maxRecDepth 100000 in
theorem wX5_laneOf_e {nf : Nat} {p : Program} {l : Launch} {e : Env} {s : State} {m : MethodId} {args : Array Value} {below : List Frame} {meth : Method} {c : Code} {D : va_G} {dA : Nat → ClassId} {s0 : Nat} {T : xT} {N : xT} {Z : Nat} {I : xI} {L : xL} {R : xR} {H : Heap} {locs : List Loc} {ls : Array Slot} {x0 : Nat} {x1 : Int32} {ro : Int32} {Io : xI} {Lo : xL} (X : Cx D dA s0 p m c cX5_laneOf 6 s args RX5 meth) (hr : meth.sig.returnType = (some .int)) (hf : fX5_laneOf nf T N I L R x0 x1 = some (ro, Io, Lo)) (V : Iv D dA s0 s T N Z I L R H locs) (hl : lv_has ls 6 [(0, .ref x0), (1, .int x1)]) : W p l e { frames := 7, cells := 0, slots := 0, locals := 166 } s m args below meth c H locs 0 0 (MQ below (xQ D dA s0 (some (.int ro)) T N Z Io Lo R) args s 0 0 (fun q => s0 ≤ q)) (F0 m 0 ls []) := by
  have hx := X.1.1
  have hb := X.1.2.1
  unfold fX5_laneOf at hf
  refine lv_iconst (pc := 0) (v := (ii 0)) hx hb dX5_laneOf_0 (by decide) ?_
  refine lv_istore_n (pc := 1) (lv' := [(2, .int (ii 0)), (0, .ref x0), (1, .int x1)]) hx hb dX5_laneOf_1 rfl hl (by decide) rfl (fun ls hl => ?_)
  refine lv_iconst (pc := 2) (v := (ii 0)) hx hb dX5_laneOf_2 (by decide) ?_
  refine lv_istore_n (pc := 3) (lv' := [(3, .int (ii 0)), (2, .int (ii 0)), (0, .ref x0), (1, .int x1)]) hx hb dX5_laneOf_3 rfl hl (by decide) rfl (fun ls hl => ?_)
  exact wX5_laneOf_b4 X hr nf hf V (lv_sub hl [2, 3, 1, 0] rfl)
theorem mX5_laneOf {nf : Nat} (l : Launch) (D : va_G) (dA : Nat → ClassId) (s0 : Nat) {T : xT} {N : xT} {Z : Nat} {I : xI} {L : xL} {R : xR} {x0 : Nat} {x1 : Int32} {ro : Int32} {Io : xI} {Lo : xL} (hf : fX5_laneOf nf T N I L R x0 x1 = some (ro, Io, Lo)) : XMet l D dA s0 yX5_laneOf (ws_ yX5_laneOf cX5_laneOf 6 ((some .int))) (7) (166) [.ref x0, .int x1] T N Z I L R (some (.int ro)) T N Z Io Lo R 0 0 :=
  x_start (own := RX5) rfl (by decide) (Nat.le_of_ble_eq_true rfl) (lv := [(0, .ref x0), (1, .int x1)]) rfl (fun p e s m below meth c ls X hr hini V hl => wX5_laneOf_e X hr hf V hl)
set_option maxHeartbeats 400000 in
set_option maxRecDepth 100000 in
theorem wX5_of_e {nf : Nat} {p : Program} {l : Launch} {e : Env} {s : State} {m : MethodId} {args : Array Value} {below : List Frame} {meth : Method} {c : Code} {D : va_G} {dA : Nat → ClassId} {s0 : Nat} {T : xT} {N : xT} {Z : Nat} {I : xI} {L : xL} {R : xR} {H : Heap} {locs : List Loc} {ls : Array Slot} {x0 : Nat} {x1 : Int32} {x2 : Int32} {ro : Int32} {Io : xI} {Lo : xL} (X : Cx D dA s0 p m c cX5_of 3 s args RX5 meth) (hr : meth.sig.returnType = (some .int)) (hf : fX5_of nf T N I L R x0 x1 x2 = some (ro, Io, Lo)) (V : Iv D dA s0 s T N Z I L R H locs) (hl : lv_has ls 3 [(0, .ref x0), (1, .int x1), (2, .int x2)]) : W p l e { frames := 8, cells := 0, slots := 0, locals := 191 } s m args below meth c H locs 0 0 (MQ below (xQ D dA s0 (some (.int ro)) T N Z Io Lo R) args s 0 0 (fun q => s0 ≤ q)) (F0 m 0 ls []) := by
  have hx := X.1.1
  have hb := X.1.2.1
  unfold fX5_of at hf
  refine lv_aload_n (pc := 0) hx hb dX5_of_0 rfl (lv_at hl 0 rfl) ?_
  refine lv_iconst (pc := 1) (v := (ii 0)) hx hb dX5_of_1 (by decide) ?_
  replace hf := tg_s hf; obtain ⟨ht1, hf⟩ := hf
  replace hf := nm_s hf; obtain ⟨I2, hI2, hf⟩ := hf
  refine x_puti (pc := 2) X V okX5 (by decide) ht1 0 (by decide) q1521 (Or.inl rfl) hI2 (fun _ _ _ => rfl) rfl rfl dX5_of_2 (fun H locs V => ?_)
  refine lv_aload_n (pc := 5) hx hb dX5_of_5 rfl (lv_at hl 0 rfl) ?_
  refine lv_iload_n (pc := 6) hx hb dX5_of_6 rfl (lv_at hl 1 rfl) ?_
  replace hf := bs hf; obtain ⟨r3, hk_4, hf⟩ := hf
  refine x_callV0 (pc := 7) (As := [.int x1]) (rest := []) X V (mX5_isChild l D dA s0 hk_4) okX5 ht1 q1754 q1756 qs50 q129 q1757 ⟨rfl, hsX5_isChild⟩ ⟨Nat.le_of_ble_eq_true rfl, Nat.le_of_ble_eq_true rfl⟩ rfl hl.1 rfl (Nat.le_of_ble_eq_true rfl) dX5_of_7 ⟨Nat.zero_le _, Nat.zero_le _⟩ (fun H locs V => W.eq (g2 := F0 m 10 ls [.int r3]) rfl ?_)
  refine lv_if_ne (pc := 10) (tgt := 15) hx hb dX5_of_10 (by decide) (fun c5 => ?_) (fun c5 => ?_)
  · replace hf := if_f hf c5
    refine lv_iload_n (pc := 15) hx hb dX5_of_15 rfl (lv_at hl 2 rfl) ?_
    by_cases c6 : x2 = (ii 0)
    · replace hf := if_t hf c6
      refine x_tswIn (pc := 16) (tgt := 52) (off := 36) hx hb c6 dX5_of_16 (by decide) (by decide) (by decide) (by decide) ?_
      refine lv_aload_n (pc := 52) hx hb dX5_of_52 rfl (lv_at hl 0 rfl) ?_
      replace hf := bs hf; obtain ⟨a7, ha7, hf⟩ := hf
      refine x_get (pc := 53) X V okX5 ht1 3 (by decide) q1524 (v := va_rf (R x0 3)) rfl dX5_of_53 ?_
      refine x_topr ha7 ?_
      refine lv_bipush (pc := 56) (v := (ii 66)) hx hb dX5_of_56 (by decide) ?_
      refine lv_iload_n (pc := 58) hx hb dX5_of_58 rfl (lv_at hl 1 rfl) ?_
      refine lv_iadd (pc := 59) hx hb dX5_of_59 ?_
      replace hf := rA_s hf; obtain ⟨j8, hjj8, htj8, hij8, hf⟩ := hf
      refine x_iald (pc := 60) X V htj8 hij8 hjj8 dX5_of_60 ?_
      cases hf
      exact x_iret (pc := 61) X V hr dX5_of_61
    replace hf := if_f hf c6
    by_cases c9 : x2 = (ii 1)
    · replace hf := if_t hf c9
      refine x_tswIn (pc := 16) (tgt := 62) (off := 46) hx hb c9 dX5_of_16 (by decide) (by decide) (by decide) (by decide) ?_
      refine lv_aload_n (pc := 62) hx hb dX5_of_62 rfl (lv_at hl 0 rfl) ?_
      replace hf := bs hf; obtain ⟨a10, ha10, hf⟩ := hf
      refine x_get (pc := 63) X V okX5 ht1 3 (by decide) q1524 (v := va_rf (R x0 3)) rfl dX5_of_63 ?_
      refine x_topr ha10 ?_
      refine lv_bipush (pc := 66) (v := (ii 18)) hx hb dX5_of_66 (by decide) ?_
      refine lv_iload_n (pc := 68) hx hb dX5_of_68 rfl (lv_at hl 1 rfl) ?_
      refine lv_iadd (pc := 69) hx hb dX5_of_69 ?_
      replace hf := rA_s hf; obtain ⟨j11, hjj11, htj11, hij11, hf⟩ := hf
      refine x_iald (pc := 70) X V htj11 hij11 hjj11 dX5_of_70 ?_
      cases hf
      exact x_iret (pc := 71) X V hr dX5_of_71
    replace hf := if_f hf c9
    by_cases c12 : x2 = (ii 2)
    · replace hf := if_t hf c12
      refine x_tswIn (pc := 16) (tgt := 72) (off := 56) hx hb c12 dX5_of_16 (by decide) (by decide) (by decide) (by decide) ?_
      refine lv_aload_n (pc := 72) hx hb dX5_of_72 rfl (lv_at hl 0 rfl) ?_
      replace hf := bs hf; obtain ⟨a13, ha13, hf⟩ := hf
      refine x_get (pc := 73) X V okX5 ht1 3 (by decide) q1524 (v := va_rf (R x0 3)) rfl dX5_of_73 ?_
      refine x_topr ha13 ?_
      refine lv_bipush (pc := 76) (v := (ii 22)) hx hb dX5_of_76 (by decide) ?_
      refine lv_iload_n (pc := 78) hx hb dX5_of_78 rfl (lv_at hl 1 rfl) ?_
      refine lv_iadd (pc := 79) hx hb dX5_of_79 ?_
      replace hf := rA_s hf; obtain ⟨j14, hjj14, htj14, hij14, hf⟩ := hf
      refine x_iald (pc := 80) X V htj14 hij14 hjj14 dX5_of_80 ?_
      cases hf
      exact x_iret (pc := 81) X V hr dX5_of_81
    replace hf := if_f hf c12
    by_cases c15 : x2 = (ii 3)
    · replace hf := if_t hf c15
      refine x_tswIn (pc := 16) (tgt := 82) (off := 66) hx hb c15 dX5_of_16 (by decide) (by decide) (by decide) (by decide) ?_
      refine lv_aload_n (pc := 82) hx hb dX5_of_82 rfl (lv_at hl 0 rfl) ?_
      refine lv_iload_n (pc := 83) hx hb dX5_of_83 rfl (lv_at hl 1 rfl) ?_
      replace hf := b3s hf; obtain ⟨r16, I17, L18, hk_19, hf⟩ := hf
      refine x_callV0 (pc := 84) (As := [.int x1]) (rest := []) X V (mX5_turnsTo l D dA s0 hk_19) okX5 ht1 q1758 q1760 qs51 q129 q1761 ⟨rfl, hsX5_turnsTo⟩ ⟨Nat.le_of_ble_eq_true rfl, Nat.le_of_ble_eq_true rfl⟩ rfl hl.1 rfl (Nat.le_of_ble_eq_true rfl) dX5_of_84 ⟨Nat.zero_le _, Nat.zero_le _⟩ (fun H locs V => W.eq (g2 := F0 m 87 ls [.int r16]) rfl ?_)
      cases hf
      exact x_iret (pc := 87) X V hr dX5_of_87
    replace hf := if_f hf c15
    by_cases c20 : x2 = (ii 4)
    · replace hf := if_t hf c20
      refine x_tswIn (pc := 16) (tgt := 88) (off := 72) hx hb c20 dX5_of_16 (by decide) (by decide) (by decide) (by decide) ?_
      refine lv_aload_n (pc := 88) hx hb dX5_of_88 rfl (lv_at hl 0 rfl) ?_
      refine lv_iload_n (pc := 89) hx hb dX5_of_89 rfl (lv_at hl 1 rfl) ?_
      replace hf := b3s hf; obtain ⟨r21, I22, L23, hk_24, hf⟩ := hf
      refine x_callV0 (pc := 90) (As := [.int x1]) (rest := []) X V (mX5_laneOf l D dA s0 hk_24) okX5 ht1 q1784 q1786 qs56 q129 q1787 ⟨rfl, hsX5_laneOf⟩ ⟨Nat.le_of_ble_eq_true rfl, Nat.le_of_ble_eq_true rfl⟩ rfl hl.1 rfl (Nat.le_of_ble_eq_true rfl) dX5_of_90 ⟨Nat.zero_le _, Nat.zero_le _⟩ (fun H locs V => W.eq (g2 := F0 m 93 ls [.int r21]) rfl ?_)
      cases hf
      exact x_iret (pc := 93) X V hr dX5_of_93
    replace hf := if_f hf c20
    refine lv_tableOut (pc := 16) (tgt := 94) hx hb dX5_of_16 (by have qc6 := lv_neT c6 (a := 0) (by decide); have qc9 := lv_neT c9 (a := 1) (by decide); have qc12 := lv_neT c12 (a := 2) (by decide); have qc15 := lv_neT c15 (a := 3) (by decide); have qc20 := lv_neT c20 (a := 4) (by decide); omega) (by decide) ?_
    refine lv_iconst (pc := 94) (v := (-1 : Int32)) hx hb dX5_of_94 (by decide) ?_
    cases hf
    exact x_iret (pc := 95) X V hr dX5_of_95
  · replace hf := if_t hf c5
    refine lv_iconst (pc := 13) (v := (-1 : Int32)) hx hb dX5_of_13 (by decide) ?_
    cases hf
    exact x_iret (pc := 14) X V hr dX5_of_14
theorem mX5_of {nf : Nat} (l : Launch) (D : va_G) (dA : Nat → ClassId) (s0 : Nat) {T : xT} {N : xT} {Z : Nat} {I : xI} {L : xL} {R : xR} {x0 : Nat} {x1 : Int32} {x2 : Int32} {ro : Int32} {Io : xI} {Lo : xL} (hf : fX5_of nf T N I L R x0 x1 x2 = some (ro, Io, Lo)) : XMet l D dA s0 yX5_of (ws_ yX5_of cX5_of 3 ((some .int))) (8) (191) [.ref x0, .int x1, .int x2] T N Z I L R (some (.int ro)) T N Z Io Lo R 0 0 :=
  x_start (own := RX5) rfl (by decide) (Nat.le_of_ble_eq_true rfl) (lv := [(0, .ref x0), (1, .int x1), (2, .int x2)]) rfl (fun p e s m below meth c ls X hr hini V hl => wX5_of_e X hr hf V hl)
set_option maxHeartbeats 400000 in
set_option maxRecDepth 100000 in
theorem wX5_saysOf_e {nf : Nat} {p : Program} {l : Launch} {e : Env} {s : State} {m : MethodId} {args : Array Value} {below : List Frame} {meth : Method} {c : Code} {D : va_G} {dA : Nat → ClassId} {s0 : Nat} {T : xT} {N : xT} {Z : Nat} {I : xI} {L : xL} {R : xR} {H : Heap} {locs : List Loc} {ls : Array Slot} {x0 : Nat} {x1 : Int32} {x2 : Int32} {ro : Int32} {Io : xI} {Lo : xL} (X : Cx D dA s0 p m c cX5_saysOf 3 s args RX5 meth) (hr : meth.sig.returnType = (some .int)) (hf : fX5_saysOf nf T N I L R x0 x1 x2 = some (ro, Io, Lo)) (V : Iv D dA s0 s T N Z I L R H locs) (hl : lv_has ls 3 [(0, .ref x0), (1, .int x1), (2, .int x2)]) : W p l e { frames := 5, cells := 0, slots := 0, locals := 122 } s m args below meth c H locs 0 0 (MQ below (xQ D dA s0 (some (.int ro)) T N Z Io Lo R) args s 0 0 (fun q => s0 ≤ q)) (F0 m 0 ls []) := by
  have hx := X.1.1
  have hb := X.1.2.1
  unfold fX5_saysOf at hf
  refine lv_aload_n (pc := 0) hx hb dX5_saysOf_0 rfl (lv_at hl 0 rfl) ?_
  refine lv_iconst (pc := 1) (v := (ii 1)) hx hb dX5_saysOf_1 (by decide) ?_
  refine lv_iload_n (pc := 2) hx hb dX5_saysOf_2 rfl (lv_at hl 1 rfl) ?_
  refine lv_iload_n (pc := 3) hx hb dX5_saysOf_3 rfl (lv_at hl 2 rfl) ?_
  refine lv_aload_n (pc := 4) hx hb dX5_saysOf_4 rfl (lv_at hl 0 rfl) ?_
  replace hf := tg_s hf; obtain ⟨ht1, hf⟩ := hf
  replace hf := bs hf; obtain ⟨a2, ha2, hf⟩ := hf
  refine x_get (pc := 5) X V okX5 ht1 3 (by decide) q1524 (v := va_rf (R x0 3)) rfl dX5_saysOf_5 ?_
  refine x_topr ha2 ?_
  refine lv_bipush (pc := 8) (v := (ii 56)) hx hb dX5_saysOf_8 (by decide) ?_
  refine lv_iload_n (pc := 10) hx hb dX5_saysOf_10 rfl (lv_at hl 2 rfl) ?_
  refine lv_iadd (pc := 11) hx hb dX5_saysOf_11 ?_
  replace hf := rA_s hf; obtain ⟨j3, hjj3, htj3, hij3, hf⟩ := hf
  refine x_iald (pc := 12) X V htj3 hij3 hjj3 dX5_saysOf_12 ?_
  refine lv_i2l (pc := 13) hx hb dX5_saysOf_13 rfl ?_
  replace hf := b3s hf; obtain ⟨r4, I5, L6, hk_7, hf⟩ := hf
  refine x_callV0 (pc := 14) (As := [.int (ii 1), .int x1, .int x2, .long (((I a2 j3)).toInt64)]) (rest := []) X V (mX5_tells l D dA s0 hk_7) okX5 ht1 q1762 q1764 qs52 q129 q1765 ⟨rfl, hsX5_tells⟩ ⟨Nat.le_of_ble_eq_true rfl, Nat.le_of_ble_eq_true rfl⟩ rfl hl.1 rfl (Nat.le_of_ble_eq_true rfl) dX5_saysOf_14 ⟨Nat.zero_le _, Nat.zero_le _⟩ (fun H locs V => W.eq (g2 := F0 m 17 ls [.long r4]) rfl ?_)
  refine lv_iconst (pc := 17) (v := (ii 0)) hx hb dX5_saysOf_17 (by decide) ?_
  refine lv_bipush (pc := 18) (v := (ii 19)) hx hb dX5_saysOf_18 (by decide) ?_
  replace hf := bs hf; obtain ⟨r8, hk_9, hf⟩ := hf
  refine x_callS0 (pc := 20) (As := [.long r4, .int (ii 0), .int (ii 19)]) (rest := []) X V (mX5_bounded l D dA s0 hk_9) q1781 q1782 q129 q1783 hsX5_bounded ⟨Nat.le_of_ble_eq_true rfl, Nat.le_of_ble_eq_true rfl⟩ rfl hl.1 rfl (Nat.le_of_ble_eq_true rfl) dX5_saysOf_20 ⟨Nat.zero_le _, Nat.zero_le _⟩ (fun H locs V => W.eq (g2 := F0 m 23 ls [.int r8]) rfl ?_)
  cases hf
  exact x_iret (pc := 23) X V hr dX5_saysOf_23
theorem mX5_saysOf {nf : Nat} (l : Launch) (D : va_G) (dA : Nat → ClassId) (s0 : Nat) {T : xT} {N : xT} {Z : Nat} {I : xI} {L : xL} {R : xR} {x0 : Nat} {x1 : Int32} {x2 : Int32} {ro : Int32} {Io : xI} {Lo : xL} (hf : fX5_saysOf nf T N I L R x0 x1 x2 = some (ro, Io, Lo)) : XMet l D dA s0 yX5_saysOf (ws_ yX5_saysOf cX5_saysOf 3 ((some .int))) (5) (122) [.ref x0, .int x1, .int x2] T N Z I L R (some (.int ro)) T N Z Io Lo R 0 0 :=
  x_start (own := RX5) rfl (by decide) (Nat.le_of_ble_eq_true rfl) (lv := [(0, .ref x0), (1, .int x1), (2, .int x2)]) rfl (fun p e s m below meth c ls X hr hini V hl => wX5_saysOf_e X hr hf V hl)
set_option maxHeartbeats 400000 in
set_option maxRecDepth 100000 in
theorem wX5_asks_e {nf : Nat} {p : Program} {l : Launch} {e : Env} {s : State} {m : MethodId} {args : Array Value} {below : List Frame} {meth : Method} {c : Code} {D : va_G} {dA : Nat → ClassId} {s0 : Nat} {T : xT} {N : xT} {Z : Nat} {I : xI} {L : xL} {R : xR} {H : Heap} {locs : List Loc} {ls : Array Slot} {x0 : Nat} {x1 : Int32} {x2 : Int32} {x3 : Int32} {ro : Int32} {Io : xI} {Lo : xL} (X : Cx D dA s0 p m c cX5_asks 4 s args RX5 meth) (hr : meth.sig.returnType = (some .int)) (hf : fX5_asks nf T N I L R x0 x1 x2 x3 = some (ro, Io, Lo)) (V : Iv D dA s0 s T N Z I L R H locs) (hl : lv_has ls 4 [(0, .ref x0), (1, .int x1), (2, .int x2), (3, .int x3)]) : W p l e { frames := 6, cells := 0, slots := 0, locals := 144 } s m args below meth c H locs 0 0 (MQ below (xQ D dA s0 (some (.int ro)) T N Z Io Lo R) args s 0 0 (fun q => s0 ≤ q)) (F0 m 0 ls []) := by
  have hx := X.1.1
  have hb := X.1.2.1
  unfold fX5_asks at hf
  refine lv_aload_n (pc := 0) hx hb dX5_asks_0 rfl (lv_at hl 0 rfl) ?_
  refine lv_iconst (pc := 1) (v := (ii 0)) hx hb dX5_asks_1 (by decide) ?_
  replace hf := tg_s hf; obtain ⟨ht1, hf⟩ := hf
  replace hf := nm_s hf; obtain ⟨I2, hI2, hf⟩ := hf
  refine x_puti (pc := 2) X V okX5 (by decide) ht1 0 (by decide) q1521 (Or.inl rfl) hI2 (fun _ _ _ => rfl) rfl rfl dX5_asks_2 (fun H locs V => ?_)
  refine lv_aload_n (pc := 5) hx hb dX5_asks_5 rfl (lv_at hl 0 rfl) ?_
  refine lv_iload_n (pc := 6) hx hb dX5_asks_6 rfl (lv_at hl 1 rfl) ?_
  replace hf := bs hf; obtain ⟨r3, hk_4, hf⟩ := hf
  refine x_callV0 (pc := 7) (As := [.int x1]) (rest := []) X V (mX5_isChild l D dA s0 hk_4) okX5 ht1 q1754 q1756 qs50 q129 q1757 ⟨rfl, hsX5_isChild⟩ ⟨Nat.le_of_ble_eq_true rfl, Nat.le_of_ble_eq_true rfl⟩ rfl hl.1 rfl (Nat.le_of_ble_eq_true rfl) dX5_asks_7 ⟨Nat.zero_le _, Nat.zero_le _⟩ (fun H locs V => W.eq (g2 := F0 m 10 ls [.int r3]) rfl ?_)
  refine lv_if_eq (pc := 10) (tgt := 31) hx hb dX5_asks_10 (by decide) (fun c5 => ?_) (fun c5 => ?_)
  · replace hf := if_t hf c5
    refine lv_iconst (pc := 31) (v := (-1 : Int32)) hx hb dX5_asks_31 (by decide) ?_
    cases hf
    exact x_iret (pc := 32) X V hr dX5_asks_32
  · replace hf := if_f hf c5
    refine lv_aload_n (pc := 13) hx hb dX5_asks_13 rfl (lv_at hl 0 rfl) ?_
    refine lv_iload_n (pc := 14) hx hb dX5_asks_14 rfl (lv_at hl 2 rfl) ?_
    replace hf := bs hf; obtain ⟨r6, hk_7, hf⟩ := hf
    refine x_callV0 (pc := 15) (As := [.int x2]) (rest := []) X V (mX5_isLane l D dA s0 hk_7) okX5 ht1 q1742 q1744 qs49 q129 q1745 ⟨rfl, hsX5_isLane⟩ ⟨Nat.le_of_ble_eq_true rfl, Nat.le_of_ble_eq_true rfl⟩ rfl hl.1 rfl (Nat.le_of_ble_eq_true rfl) dX5_asks_15 ⟨Nat.zero_le _, Nat.zero_le _⟩ (fun H locs V => W.eq (g2 := F0 m 18 ls [.int r6]) rfl ?_)
    refine lv_if_eq (pc := 18) (tgt := 31) hx hb dX5_asks_18 (by decide) (fun c8 => ?_) (fun c8 => ?_)
    · replace hf := if_t hf c8
      refine lv_iconst (pc := 31) (v := (-1 : Int32)) hx hb dX5_asks_31 (by decide) ?_
      cases hf
      exact x_iret (pc := 32) X V hr dX5_asks_32
    · replace hf := if_f hf c8
      refine lv_iload_n (pc := 21) hx hb dX5_asks_21 rfl (lv_at hl 3 rfl) ?_
      refine lv_i2l (pc := 22) hx hb dX5_asks_22 rfl ?_
      refine lv_lconst (pc := 23) (v := (jj 0)) hx hb dX5_asks_23 (by decide) ?_
      refine lv_lconst (pc := 24) (v := (jj 1)) hx hb dX5_asks_24 (by decide) ?_
      replace hf := bs hf; obtain ⟨r9, hk_10, hf⟩ := hf
      refine x_callS0 (pc := 25) (As := [.long ((x3).toInt64), .long (jj 0), .long (jj 1)]) (rest := []) X V (mX5_in l D dA s0 hk_10) q1713 q1714 q129 q1715 hsX5_in ⟨Nat.le_of_ble_eq_true rfl, Nat.le_of_ble_eq_true rfl⟩ rfl hl.1 rfl (Nat.le_of_ble_eq_true rfl) dX5_asks_25 ⟨Nat.zero_le _, Nat.zero_le _⟩ (fun H locs V => W.eq (g2 := F0 m 28 ls [.int r9]) rfl ?_)
      refine lv_if_ne (pc := 28) (tgt := 33) hx hb dX5_asks_28 (by decide) (fun c11 => ?_) (fun c11 => ?_)
      · replace hf := if_f hf c11
        refine lv_iload_n (pc := 33) hx hb dX5_asks_33 rfl (lv_at hl 3 rfl) ?_
        refine lv_if_ne (pc := 34) (tgt := 46) hx hb dX5_asks_34 (by decide) (fun c12 => ?_) (fun c12 => ?_)
        · replace hf := if_f hf c12
          refine lv_aload_n (pc := 46) hx hb dX5_asks_46 rfl (lv_at hl 0 rfl) ?_
          refine lv_iload_n (pc := 47) hx hb dX5_asks_47 rfl (lv_at hl 1 rfl) ?_
          refine lv_iload_n (pc := 48) hx hb dX5_asks_48 rfl (lv_at hl 2 rfl) ?_
          replace hf := b3s hf; obtain ⟨r13, I14, L15, hk_16, hf⟩ := hf
          refine x_callV0 (pc := 49) (As := [.int x1, .int x2]) (rest := []) X V (mX5_isBarred l D dA s0 hk_16) okX5 ht1 q1796 q1798 qs59 q129 q1799 ⟨rfl, hsX5_isBarred⟩ ⟨Nat.le_of_ble_eq_true rfl, Nat.le_of_ble_eq_true rfl⟩ rfl hl.1 rfl (Nat.le_of_ble_eq_true rfl) dX5_asks_49 ⟨Nat.zero_le _, Nat.zero_le _⟩ (fun H locs V => W.eq (g2 := F0 m 52 ls [.int r13]) rfl ?_)
          refine lv_if_eq (pc := 52) (tgt := 59) hx hb dX5_asks_52 (by decide) (fun c17 => ?_) (fun c17 => ?_)
          · replace hf := if_t hf c17
            refine lv_iconst (pc := 59) (v := (ii 0)) hx hb dX5_asks_59 (by decide) ?_
            cases hf
            exact x_iret (pc := 60) X V hr dX5_asks_60
          · replace hf := if_f hf c17
            refine lv_iconst (pc := 55) (v := (ii 1)) hx hb dX5_asks_55 (by decide) ?_
            refine lv_goto (pc := 56) (tgt := 60) hx hb dX5_asks_56 (by decide) ?_
            cases hf
            exact x_iret (pc := 60) X V hr dX5_asks_60
        · replace hf := if_t hf c12
          refine lv_aload_n (pc := 37) hx hb dX5_asks_37 rfl (lv_at hl 0 rfl) ?_
          refine lv_iload_n (pc := 38) hx hb dX5_asks_38 rfl (lv_at hl 1 rfl) ?_
          refine lv_iload_n (pc := 39) hx hb dX5_asks_39 rfl (lv_at hl 2 rfl) ?_
          replace hf := b3s hf; obtain ⟨r18, I19, L20, hk_21, hf⟩ := hf
          refine x_callV0 (pc := 40) (As := [.int x1, .int x2]) (rest := []) X V (mX5_saysOf l D dA s0 hk_21) okX5 ht1 q1804 q1806 qs60 q129 q1807 ⟨rfl, hsX5_saysOf⟩ ⟨Nat.le_of_ble_eq_true rfl, Nat.le_of_ble_eq_true rfl⟩ rfl hl.1 rfl (Nat.le_of_ble_eq_true rfl) dX5_asks_40 ⟨Nat.zero_le _, Nat.zero_le _⟩ (fun H locs V => W.eq (g2 := F0 m 43 ls [.int r18]) rfl ?_)
          refine lv_goto (pc := 43) (tgt := 60) hx hb dX5_asks_43 (by decide) ?_
          cases hf
          exact x_iret (pc := 60) X V hr dX5_asks_60
      · replace hf := if_t hf c11
        refine lv_iconst (pc := 31) (v := (-1 : Int32)) hx hb dX5_asks_31 (by decide) ?_
        cases hf
        exact x_iret (pc := 32) X V hr dX5_asks_32
theorem mX5_asks {nf : Nat} (l : Launch) (D : va_G) (dA : Nat → ClassId) (s0 : Nat) {T : xT} {N : xT} {Z : Nat} {I : xI} {L : xL} {R : xR} {x0 : Nat} {x1 : Int32} {x2 : Int32} {x3 : Int32} {ro : Int32} {Io : xI} {Lo : xL} (hf : fX5_asks nf T N I L R x0 x1 x2 x3 = some (ro, Io, Lo)) : XMet l D dA s0 yX5_asks (ws_ yX5_asks cX5_asks 4 ((some .int))) (6) (144) [.ref x0, .int x1, .int x2, .int x3] T N Z I L R (some (.int ro)) T N Z Io Lo R 0 0 :=
  x_start (own := RX5) rfl (by decide) (Nat.le_of_ble_eq_true rfl) (lv := [(0, .ref x0), (1, .int x1), (2, .int x2), (3, .int x3)]) rfl (fun p e s m below meth c ls X hr hini V hl => wX5_asks_e X hr hf V hl)
set_option maxHeartbeats 400000 in
set_option maxRecDepth 100000 in
theorem wX5_change_e {p : Program} {l : Launch} {e : Env} {s : State} {m : MethodId} {args : Array Value} {below : List Frame} {meth : Method} {c : Code} {D : va_G} {dA : Nat → ClassId} {s0 : Nat} {T : xT} {N : xT} {Z : Nat} {I : xI} {L : xL} {R : xR} {H : Heap} {locs : List Loc} {ls : Array Slot} {x0 : Nat} {x1 : Int32} {x2 : Int32} {ro : Int32} {Io : xI} (X : Cx D dA s0 p m c cX5_change 4 s args RX5 meth) (hr : meth.sig.returnType = (some .int)) (hf : fX5_change T N I R x0 x1 x2 = some (ro, Io)) (V : Iv D dA s0 s T N Z I L R H locs) (hl : lv_has ls 4 [(0, .ref x0), (1, .int x1), (2, .int x2)]) : W p l e { frames := 0, cells := 0, slots := 0, locals := 0 } s m args below meth c H locs 0 0 (MQ below (xQ D dA s0 (some (.int ro)) T N Z Io L R) args s 0 0 (fun q => s0 ≤ q)) (F0 m 0 ls []) := by
  have hx := X.1.1
  have hb := X.1.2.1
  unfold fX5_change at hf
  refine lv_aload_n (pc := 0) hx hb dX5_change_0 rfl (lv_at hl 0 rfl) ?_
  replace hf := tg_s hf; obtain ⟨ht1, hf⟩ := hf
  replace hf := bs hf; obtain ⟨a2, ha2, hf⟩ := hf
  refine x_get (pc := 1) X V okX5 ht1 3 (by decide) q1524 (v := va_rf (R x0 3)) rfl dX5_change_1 ?_
  refine x_topr ha2 ?_
  refine lv_iload_n (pc := 4) hx hb dX5_change_4 rfl (lv_at hl 1 rfl) ?_
  replace hf := rA_s hf; obtain ⟨j3, hjj3, htj3, hij3, hf⟩ := hf
  refine x_iald (pc := 5) X V htj3 hij3 hjj3 dX5_change_5 ?_
  replace hf := nm_s hf; obtain ⟨u4, hu4, hf⟩ := hf
  refine x_topi hu4 ?_
  refine lv_istore_n (pc := 6) (lv' := [(3, .int u4), (0, .ref x0), (1, .int x1), (2, .int x2)]) hx hb dX5_change_6 rfl hl (by decide) rfl (fun ls hl => ?_)
  refine lv_aload_n (pc := 7) hx hb dX5_change_7 rfl (lv_at hl 1 rfl) ?_
  refine x_get (pc := 8) X V okX5 ht1 3 (by decide) q1524 (v := va_rf (R x0 3)) rfl dX5_change_8 ?_
  refine x_topr ha2 ?_
  refine lv_iload_n (pc := 11) hx hb dX5_change_11 rfl (lv_at hl 2 rfl) ?_
  refine lv_iload_n (pc := 12) hx hb dX5_change_12 rfl (lv_at hl 3 rfl) ?_
  replace hf := nm_s hf; obtain ⟨I5, hI5, hf⟩ := hf
  refine x_iast (pc := 13) X V htj3 hij3 hjj3 hI5 dX5_change_13 (fun H locs V => ?_)
  refine lv_aload_n (pc := 14) hx hb dX5_change_14 rfl (lv_at hl 1 rfl) ?_
  refine lv_iconst (pc := 15) (v := (ii 0)) hx hb dX5_change_15 (by decide) ?_
  replace hf := nm_s hf; obtain ⟨I6, hI6, hf⟩ := hf
  refine x_puti (pc := 16) X V okX5 (by decide) ht1 1 (by decide) q1522 (Or.inl rfl) hI6 (fun _ _ _ => rfl) rfl rfl dX5_change_16 (fun H locs V => ?_)
  refine lv_iload_n (pc := 19) hx hb dX5_change_19 rfl (lv_at hl 0 rfl) ?_
  cases hf
  exact x_iret (pc := 20) X V hr dX5_change_20
theorem mX5_change (l : Launch) (D : va_G) (dA : Nat → ClassId) (s0 : Nat) {T : xT} {N : xT} {Z : Nat} {I : xI} {L : xL} {R : xR} {x0 : Nat} {x1 : Int32} {x2 : Int32} {ro : Int32} {Io : xI} (hf : fX5_change T N I R x0 x1 x2 = some (ro, Io)) : XMet l D dA s0 yX5_change (ws_ yX5_change cX5_change 4 ((some .int))) (0) (0) [.ref x0, .int x1, .int x2] T N Z I L R (some (.int ro)) T N Z Io L R 0 0 :=
  x_start (own := RX5) rfl (by decide) (Nat.le_of_ble_eq_true rfl) (lv := [(0, .ref x0), (1, .int x1), (2, .int x2)]) rfl (fun p e s m below meth c ls X hr hini V hl => wX5_change_e X hr hf V hl)
set_option maxHeartbeats 400000 in
set_option maxRecDepth 100000 in
theorem wX5_terms_b60 {p : Program} {l : Launch} {e : Env} {s : State} {m : MethodId} {args : Array Value} {below : List Frame} {meth : Method} {c : Code} {D : va_G} {dA : Nat → ClassId} {s0 : Nat} {T : xT} {N : xT} {Z : Nat} {I : xI} {L : xL} {R : xR} {H : Heap} {locs : List Loc} {ls : Array Slot}  {x0 : Nat} {x1 : Int32} {x2 : Int32} {z0 : Int32} {ro : Int32} {Io : xI} (X : Cx D dA s0 p m c cX5_terms 4 s args RX5 meth) (hr : meth.sig.returnType = (some .int))   (hf : fX5_terms_b60 T N I R x0 x1 x2 z0 = some (ro, Io)) (V : Iv D dA s0 s T N Z I L R H locs) (hl : lv_has ls 4 [(0, .ref x0), (1, .int x1), (2, .int x2)]) : W p l e { frames := 1, cells := 0, slots := 0, locals := 25 } s m args below meth c H locs 0 0 (MQ below (xQ D dA s0 (some (.int ro)) T N Z Io L R) args s 0 0 (fun q => s0 ≤ q)) (F0 m 60 ls [.int z0]) := by
  have hx := X.1.1
  have hb := X.1.2.1
  unfold fX5_terms_b60 at hf
  refine lv_istore_n (pc := 60) (lv' := [(3, .int z0), (0, .ref x0), (1, .int x1), (2, .int x2)]) hx hb dX5_terms_60 rfl hl (by decide) rfl (fun ls hl => ?_)
  refine lv_iload_n (pc := 61) hx hb dX5_terms_61 rfl (lv_at hl 0 rfl) ?_
  refine lv_if_ne (pc := 62) (tgt := 71) hx hb dX5_terms_62 (by decide) (fun c1 => ?_) (fun c1 => ?_)
  · replace hf := if_f hf c1
    refine lv_aload_n (pc := 71) hx hb dX5_terms_71 rfl (lv_at hl 1 rfl) ?_
    refine lv_iconst (pc := 72) (v := (ii 0)) hx hb dX5_terms_72 (by decide) ?_
    replace hf := tg_s hf; obtain ⟨ht2, hf⟩ := hf
    replace hf := nm_s hf; obtain ⟨I3, hI3, hf⟩ := hf
    refine x_puti (pc := 73) X V okX5 (by decide) ht2 8 (by decide) q1529 (Or.inl rfl) hI3 (fun _ _ _ => rfl) rfl rfl dX5_terms_73 (fun H locs V => ?_)
    refine lv_aload_n (pc := 76) hx hb dX5_terms_76 rfl (lv_at hl 1 rfl) ?_
    refine lv_iconst (pc := 77) (v := (ii 5)) hx hb dX5_terms_77 (by decide) ?_
    refine lv_iload_n (pc := 78) hx hb dX5_terms_78 rfl (lv_at hl 2 rfl) ?_
    refine lv_iadd (pc := 79) hx hb dX5_terms_79 ?_
    refine lv_iload_n (pc := 80) hx hb dX5_terms_80 rfl (lv_at hl 3 rfl) ?_
    replace hf := b2s hf; obtain ⟨r4, I5, hk_6, hf⟩ := hf
    refine x_callV0 (pc := 81) (As := [.int ((ii 5) + x1), .int x2]) (rest := []) X V (mX5_change l D dA s0 hk_6) okX5 ht2 q1814 q1816 qs61 q129 q1817 ⟨rfl, hsX5_change⟩ ⟨Nat.le_of_ble_eq_true rfl, Nat.le_of_ble_eq_true rfl⟩ rfl hl.1 rfl (Nat.le_of_ble_eq_true rfl) dX5_terms_81 ⟨Nat.zero_le _, Nat.zero_le _⟩ (fun H locs V => W.eq (g2 := F0 m 84 ls [.int r4]) rfl ?_)
    cases hf
    exact x_iret (pc := 84) X V hr dX5_terms_84
  · replace hf := if_t hf c1
    refine lv_aload_n (pc := 65) hx hb dX5_terms_65 rfl (lv_at hl 1 rfl) ?_
    refine lv_iconst (pc := 66) (v := (-1 : Int32)) hx hb dX5_terms_66 (by decide) ?_
    replace hf := tg_s hf; obtain ⟨ht10, hf⟩ := hf
    replace hf := b2s hf; obtain ⟨r7, I8, hk_9, hf⟩ := hf
    refine x_callV0 (pc := 67) (As := [.int (-1 : Int32)]) (rest := []) X V (mX5_tell l D dA s0 hk_9) okX5 ht10 q1701 q1703 qs45 q129 q1704 ⟨rfl, hsX5_tell⟩ ⟨Nat.le_of_ble_eq_true rfl, Nat.le_of_ble_eq_true rfl⟩ rfl hl.1 rfl (Nat.le_of_ble_eq_true rfl) dX5_terms_67 ⟨Nat.zero_le _, Nat.zero_le _⟩ (fun H locs V => W.eq (g2 := F0 m 70 ls [.int r7]) rfl ?_)
    cases hf
    exact x_iret (pc := 70) X V hr dX5_terms_70
set_option maxHeartbeats 400000 in
set_option maxRecDepth 100000 in
theorem wX5_terms_e {p : Program} {l : Launch} {e : Env} {s : State} {m : MethodId} {args : Array Value} {below : List Frame} {meth : Method} {c : Code} {D : va_G} {dA : Nat → ClassId} {s0 : Nat} {T : xT} {N : xT} {Z : Nat} {I : xI} {L : xL} {R : xR} {H : Heap} {locs : List Loc} {ls : Array Slot} {x0 : Nat} {x1 : Int32} {x2 : Int32} {ro : Int32} {Io : xI} (X : Cx D dA s0 p m c cX5_terms 4 s args RX5 meth) (hr : meth.sig.returnType = (some .int)) (hf : fX5_terms T N I R x0 x1 x2 = some (ro, Io)) (V : Iv D dA s0 s T N Z I L R H locs) (hl : lv_has ls 4 [(0, .ref x0), (1, .int x1), (2, .int x2)]) : W p l e { frames := 1, cells := 0, slots := 0, locals := 25 } s m args below meth c H locs 0 0 (MQ below (xQ D dA s0 (some (.int ro)) T N Z Io L R) args s 0 0 (fun q => s0 ≤ q)) (F0 m 0 ls []) := by
  have hx := X.1.1
  have hb := X.1.2.1
  unfold fX5_terms at hf
  refine lv_aload_n (pc := 0) hx hb dX5_terms_0 rfl (lv_at hl 0 rfl) ?_
  refine lv_iconst (pc := 1) (v := (ii 0)) hx hb dX5_terms_1 (by decide) ?_
  replace hf := tg_s hf; obtain ⟨ht1, hf⟩ := hf
  replace hf := nm_s hf; obtain ⟨I2, hI2, hf⟩ := hf
  refine x_puti (pc := 2) X V okX5 (by decide) ht1 0 (by decide) q1521 (Or.inl rfl) hI2 (fun _ _ _ => rfl) rfl rfl dX5_terms_2 (fun H locs V => ?_)
  refine lv_iload_n (pc := 5) hx hb dX5_terms_5 rfl (lv_at hl 1 rfl) ?_
  refine lv_if_ne (pc := 6) (tgt := 21) hx hb dX5_terms_6 (by decide) (fun c3 => ?_) (fun c3 => ?_)
  · replace hf := if_f hf c3
    refine lv_iload_n (pc := 21) hx hb dX5_terms_21 rfl (lv_at hl 1 rfl) ?_
    refine lv_iconst (pc := 22) (v := (ii 1)) hx hb dX5_terms_22 (by decide) ?_
    refine lv_icmp_ne (pc := 23) (tgt := 38) hx hb dX5_terms_23 (by decide) (fun c4 => ?_) (fun c4 => ?_)
    · replace hf := if_f hf c4
      refine lv_iload_n (pc := 38) hx hb dX5_terms_38 rfl (lv_at hl 1 rfl) ?_
      refine lv_iconst (pc := 39) (v := (ii 2)) hx hb dX5_terms_39 (by decide) ?_
      refine lv_icmp_ne (pc := 40) (tgt := 59) hx hb dX5_terms_40 (by decide) (fun c5 => ?_) (fun c5 => ?_)
      · replace hf := if_f hf c5
        refine lv_iconst (pc := 59) (v := (ii 0)) hx hb dX5_terms_59 (by decide) ?_
        exact wX5_terms_b60 X hr hf V (lv_sub hl [0, 1, 2] rfl)
      · replace hf := if_t hf c5
        refine lv_iload_n (pc := 43) hx hb dX5_terms_43 rfl (lv_at hl 2 rfl) ?_
        refine lv_i2l (pc := 44) hx hb dX5_terms_44 rfl ?_
        refine lv_lconst (pc := 45) (v := (jj 0)) hx hb dX5_terms_45 (by decide) ?_
        refine lv_ldc2 (pc := 46) (v := (jj 9)) hx hb X.1.2.2.2.1 (X.1.2.2.2.2 _ q1736) dX5_terms_46 ?_
        replace hf := bs hf; obtain ⟨r6, hk_7, hf⟩ := hf
        refine x_callS0 (pc := 49) (As := [.long ((x2).toInt64), .long (jj 0), .long (jj 9)]) (rest := []) X V (mX5_in l D dA s0 hk_7) q1713 q1714 q129 q1715 hsX5_in ⟨Nat.le_of_ble_eq_true rfl, Nat.le_of_ble_eq_true rfl⟩ rfl hl.1 rfl (Nat.le_of_ble_eq_true rfl) dX5_terms_49 ⟨Nat.zero_le _, Nat.zero_le _⟩ (fun H locs V => W.eq (g2 := F0 m 52 ls [.int r6]) rfl ?_)
        refine lv_if_eq (pc := 52) (tgt := 59) hx hb dX5_terms_52 (by decide) (fun c8 => ?_) (fun c8 => ?_)
        · replace hf := if_t hf c8
          refine lv_iconst (pc := 59) (v := (ii 0)) hx hb dX5_terms_59 (by decide) ?_
          exact wX5_terms_b60 X hr hf V (lv_sub hl [0, 1, 2] rfl)
        · replace hf := if_f hf c8
          refine lv_iconst (pc := 55) (v := (ii 1)) hx hb dX5_terms_55 (by decide) ?_
          refine lv_goto (pc := 56) (tgt := 60) hx hb dX5_terms_56 (by decide) ?_
          exact wX5_terms_b60 X hr hf V (lv_sub hl [0, 1, 2] rfl)
    · replace hf := if_t hf c4
      refine lv_iload_n (pc := 26) hx hb dX5_terms_26 rfl (lv_at hl 2 rfl) ?_
      refine lv_i2l (pc := 27) hx hb dX5_terms_27 rfl ?_
      refine lv_lconst (pc := 28) (v := (jj 0)) hx hb dX5_terms_28 (by decide) ?_
      refine lv_ldc2 (pc := 29) (v := (jj 10)) hx hb X.1.2.2.2.1 (X.1.2.2.2.2 _ q1813) dX5_terms_29 ?_
      replace hf := bs hf; obtain ⟨r9, hk_10, hf⟩ := hf
      refine x_callS0 (pc := 32) (As := [.long ((x2).toInt64), .long (jj 0), .long (jj 10)]) (rest := []) X V (mX5_in l D dA s0 hk_10) q1713 q1714 q129 q1715 hsX5_in ⟨Nat.le_of_ble_eq_true rfl, Nat.le_of_ble_eq_true rfl⟩ rfl hl.1 rfl (Nat.le_of_ble_eq_true rfl) dX5_terms_32 ⟨Nat.zero_le _, Nat.zero_le _⟩ (fun H locs V => W.eq (g2 := F0 m 35 ls [.int r9]) rfl ?_)
      refine lv_goto (pc := 35) (tgt := 60) hx hb dX5_terms_35 (by decide) ?_
      exact wX5_terms_b60 X hr hf V (lv_sub hl [0, 1, 2] rfl)
  · replace hf := if_t hf c3
    refine lv_iload_n (pc := 9) hx hb dX5_terms_9 rfl (lv_at hl 2 rfl) ?_
    refine lv_i2l (pc := 10) hx hb dX5_terms_10 rfl ?_
    refine lv_lconst (pc := 11) (v := (jj 0)) hx hb dX5_terms_11 (by decide) ?_
    refine lv_ldc2 (pc := 12) (v := (jj 999)) hx hb X.1.2.2.2.1 (X.1.2.2.2.2 _ q1812) dX5_terms_12 ?_
    replace hf := bs hf; obtain ⟨r11, hk_12, hf⟩ := hf
    refine x_callS0 (pc := 15) (As := [.long ((x2).toInt64), .long (jj 0), .long (jj 999)]) (rest := []) X V (mX5_in l D dA s0 hk_12) q1713 q1714 q129 q1715 hsX5_in ⟨Nat.le_of_ble_eq_true rfl, Nat.le_of_ble_eq_true rfl⟩ rfl hl.1 rfl (Nat.le_of_ble_eq_true rfl) dX5_terms_15 ⟨Nat.zero_le _, Nat.zero_le _⟩ (fun H locs V => W.eq (g2 := F0 m 18 ls [.int r11]) rfl ?_)
    refine lv_goto (pc := 18) (tgt := 60) hx hb dX5_terms_18 (by decide) ?_
    exact wX5_terms_b60 X hr hf V (lv_sub hl [0, 1, 2] rfl)
theorem mX5_terms (l : Launch) (D : va_G) (dA : Nat → ClassId) (s0 : Nat) {T : xT} {N : xT} {Z : Nat} {I : xI} {L : xL} {R : xR} {x0 : Nat} {x1 : Int32} {x2 : Int32} {ro : Int32} {Io : xI} (hf : fX5_terms T N I R x0 x1 x2 = some (ro, Io)) : XMet l D dA s0 yX5_terms (ws_ yX5_terms cX5_terms 4 ((some .int))) (1) (25) [.ref x0, .int x1, .int x2] T N Z I L R (some (.int ro)) T N Z Io L R 0 0 :=
  x_start (own := RX5) rfl (by decide) (Nat.le_of_ble_eq_true rfl) (lv := [(0, .ref x0), (1, .int x1), (2, .int x2)]) rfl (fun p e s m below meth c ls X hr hini V hl => wX5_terms_e X hr hf V hl)
set_option maxHeartbeats 400000 in
set_option maxRecDepth 100000 in
theorem wX5_row_b90 {nf : Nat} {p : Program} {l : Launch} {e : Env} {s : State} {m : MethodId} {args : Array Value} {below : List Frame} {meth : Method} {c : Code} {D : va_G} {dA : Nat → ClassId} {s0 : Nat} {T : xT} {N : xT} {Z : Nat} {I : xI} {L : xL} {R : xR} {H : Heap} {locs : List Loc} {ls : Array Slot} {kk35 : xI → Nat → Int32 → Int32 → Int32 → Option (Int32 × xI)} {x0 : Nat} {x1 : Int32} {x2 : Int32} {x3 : Int32} {ro : Int32} {Io : xI} (X : Cx D dA s0 p m c cX5_row 4 s args RX5 meth) (hr : meth.sig.returnType = (some .int)) (hk35 : ∀ {I : xI} {x0 : Nat} {x1 : Int32} {x2 : Int32} {x3 : Int32} {H : Heap} {locs : List Loc} {ls : Array Slot} , kk35 I x0 x1 x2 x3 = some (ro, Io) → Iv D dA s0 s T N Z I L R H locs → lv_has ls 4 [(0, .ref x0), (1, .int x1), (2, .int x2), (3, .int x3)] → W p l e { frames := 3, cells := 0, slots := 0, locals := 70 } s m args below meth c H locs 0 0 (MQ below (xQ D dA s0 (some (.int ro)) T N Z Io L R) args s 0 0 (fun q => s0 ≤ q)) (F0 m 35 ls []))  (hf : fX5_row_b90 nf kk35 T N I R x0 x1 x2 x3 = some (ro, Io)) (V : Iv D dA s0 s T N Z I L R H locs) (hl : lv_has ls 4 [(0, .ref x0), (1, .int x1), (2, .int x2), (3, .int x3)]) : W p l e { frames := 3, cells := 0, slots := 0, locals := 70 } s m args below meth c H locs 0 0 (MQ below (xQ D dA s0 (some (.int ro)) T N Z Io L R) args s 0 0 (fun q => s0 ≤ q)) (F0 m 90 ls []) := by
  have hx := X.1.1
  have hb := X.1.2.1
  unfold fX5_row_b90 at hf
  refine lv_aload_n (pc := 90) hx hb dX5_row_90 rfl (lv_at hl 0 rfl) ?_
  refine lv_dup (pc := 91) hx hb dX5_row_91 rfl ?_
  replace hf := tg_s hf; obtain ⟨ht1, hf⟩ := hf
  refine x_get (pc := 92) X V okX5 ht1 11 (by decide) q1532 (v := .int (I x0 11)) rfl dX5_row_92 ?_
  refine lv_iconst (pc := 95) (v := (ii 1)) hx hb dX5_row_95 (by decide) ?_
  refine lv_iadd (pc := 96) hx hb dX5_row_96 ?_
  replace hf := nm_s hf; obtain ⟨I2, hI2, hf⟩ := hf
  refine x_puti (pc := 97) X V okX5 (by decide) ht1 11 (by decide) q1532 (Or.inl rfl) hI2 (fun _ _ _ => rfl) rfl rfl dX5_row_97 (fun H locs V => ?_)
  replace hf := nm_s hf; obtain ⟨u3, hu3, hf⟩ := hf
  refine lv_iinc (pc := 100) (v := u3) (lv' := [(3, .int u3), (0, .ref x0), (1, .int x1), (2, .int x2)]) hx hb dX5_row_100 hl (k := 3) rfl (by rw [hu3]; rfl) (by decide) rfl (fun ls hl => ?_)
  refine lv_goto (pc := 103) (tgt := 35) hx hb dX5_row_103 (by decide) ?_
  exact hk35 hf V (lv_sub hl [1, 2, 3, 0] rfl)
set_option maxHeartbeats 400000 in
set_option maxRecDepth 100000 in
theorem wX5_row_b35 {nf : Nat} {p : Program} {l : Launch} {e : Env} {s : State} {m : MethodId} {args : Array Value} {below : List Frame} {meth : Method} {c : Code} {D : va_G} {dA : Nat → ClassId} {s0 : Nat} {T : xT} {N : xT} {Z : Nat} {L : xL} {R : xR}  {ro : Int32} {Io : xI} (X : Cx D dA s0 p m c cX5_row 4 s args RX5 meth) (hr : meth.sig.returnType = (some .int))   (k : Nat) : ∀ {I : xI} {x0 : Nat} {x1 : Int32} {x2 : Int32} {x3 : Int32} {H : Heap} {locs : List Loc} {ls : Array Slot} , fX5_row_b35 nf T N R k I x0 x1 x2 x3 = some (ro, Io) → Iv D dA s0 s T N Z I L R H locs → lv_has ls 4 [(0, .ref x0), (1, .int x1), (2, .int x2), (3, .int x3)] → W p l e { frames := 3, cells := 0, slots := 0, locals := 70 } s m args below meth c H locs 0 0 (MQ below (xQ D dA s0 (some (.int ro)) T N Z Io L R) args s 0 0 (fun q => s0 ≤ q)) (F0 m 35 ls []) := by
  have hx := X.1.1
  have hb := X.1.2.1
  induction k with
  | zero =>
    intro I x0 x1 x2 x3 H locs ls hf V hl
    exact absurd (show none = some _ from hf) (fun q => nomatch q)
  | succ k ih =>
    intro I x0 x1 x2 x3 H locs ls hf V hl
    rw [fX5_row_b35] at hf
    refine lv_iload_n (pc := 35) hx hb dX5_row_35 rfl (lv_at hl 3 rfl) ?_
    refine lv_iload_n (pc := 36) hx hb dX5_row_36 rfl (lv_at hl 1 rfl) ?_
    refine lv_icmp_ge (pc := 37) (tgt := 106) hx hb dX5_row_37 (by decide) (fun c1 => ?_) (fun c1 => ?_)
    · replace hf := if_t hf c1
      refine lv_aload_n (pc := 106) hx hb dX5_row_106 rfl (lv_at hl 0 rfl) ?_
      refine lv_iload_n (pc := 107) hx hb dX5_row_107 rfl (lv_at hl 2 rfl) ?_
      replace hf := tg_s hf; obtain ⟨ht5, hf⟩ := hf
      replace hf := b2s hf; obtain ⟨r2, I3, hk_4, hf⟩ := hf
      refine x_callV0 (pc := 108) (As := [.int x2]) (rest := []) X V (mX5_lasting l D dA s0 hk_4) okX5 ht5 q1720 q1722 qs47 q129 q1723 ⟨rfl, hsX5_lasting⟩ ⟨Nat.le_of_ble_eq_true rfl, Nat.le_of_ble_eq_true rfl⟩ rfl hl.1 rfl (Nat.le_of_ble_eq_true rfl) dX5_row_108 ⟨Nat.zero_le _, Nat.zero_le _⟩ (fun H locs V => W.eq (g2 := F0 m 111 ls [.int r2]) rfl ?_)
      cases hf
      exact x_iret (pc := 111) X V hr dX5_row_111
    · replace hf := if_f hf c1
      refine lv_iload_n (pc := 40) hx hb dX5_row_40 rfl (lv_at hl 3 rfl) ?_
      refine lv_iconst (pc := 41) (v := (ii 3)) hx hb dX5_row_41 (by decide) ?_
      refine lv_iadd (pc := 42) hx hb dX5_row_42 ?_
      refine lv_iload_n (pc := 43) hx hb dX5_row_43 rfl (lv_at hl 1 rfl) ?_
      refine lv_icmp_ge (pc := 44) (tgt := 90) hx hb dX5_row_44 (by decide) (fun c6 => ?_) (fun c6 => ?_)
      · replace hf := if_t hf c6
        exact wX5_row_b90 X hr ih hf V (lv_sub hl [0, 1, 2, 3] rfl)
      · replace hf := if_f hf c6
        refine lv_aload_n (pc := 47) hx hb dX5_row_47 rfl (lv_at hl 0 rfl) ?_
        refine lv_aload_n (pc := 48) hx hb dX5_row_48 rfl (lv_at hl 0 rfl) ?_
        replace hf := tg_s hf; obtain ⟨ht7, hf⟩ := hf
        replace hf := bs hf; obtain ⟨a8, ha8, hf⟩ := hf
        refine x_get (pc := 49) X V okX5 ht7 12 (by decide) q1533 (v := va_rf (R x0 12)) rfl dX5_row_49 ?_
        refine x_topr ha8 ?_
        refine lv_iload_n (pc := 52) hx hb dX5_row_52 rfl (lv_at hl 3 rfl) ?_
        replace hf := rA_s hf; obtain ⟨j9, hjj9, htj9, hij9, hf⟩ := hf
        refine x_iald (pc := 53) X V htj9 hij9 hjj9 dX5_row_53 ?_
        refine lv_aload_n (pc := 54) hx hb dX5_row_54 rfl (lv_at hl 0 rfl) ?_
        refine x_get (pc := 55) X V okX5 ht7 12 (by decide) q1533 (v := va_rf (R x0 12)) rfl dX5_row_55 ?_
        refine x_topr ha8 ?_
        refine lv_iload_n (pc := 58) hx hb dX5_row_58 rfl (lv_at hl 3 rfl) ?_
        refine lv_iconst (pc := 59) (v := (ii 1)) hx hb dX5_row_59 (by decide) ?_
        refine lv_iadd (pc := 60) hx hb dX5_row_60 ?_
        replace hf := rA_s hf; obtain ⟨j10, hjj10, htj10, hij10, hf⟩ := hf
        refine x_iald (pc := 61) X V htj10 hij10 hjj10 dX5_row_61 ?_
        refine lv_aload_n (pc := 62) hx hb dX5_row_62 rfl (lv_at hl 0 rfl) ?_
        refine x_get (pc := 63) X V okX5 ht7 12 (by decide) q1533 (v := va_rf (R x0 12)) rfl dX5_row_63 ?_
        refine x_topr ha8 ?_
        refine lv_iload_n (pc := 66) hx hb dX5_row_66 rfl (lv_at hl 3 rfl) ?_
        refine lv_iconst (pc := 67) (v := (ii 2)) hx hb dX5_row_67 (by decide) ?_
        refine lv_iadd (pc := 68) hx hb dX5_row_68 ?_
        replace hf := rA_s hf; obtain ⟨j11, hjj11, htj11, hij11, hf⟩ := hf
        refine x_iald (pc := 69) X V htj11 hij11 hjj11 dX5_row_69 ?_
        refine lv_aload_n (pc := 70) hx hb dX5_row_70 rfl (lv_at hl 0 rfl) ?_
        refine x_get (pc := 71) X V okX5 ht7 12 (by decide) q1533 (v := va_rf (R x0 12)) rfl dX5_row_71 ?_
        refine x_topr ha8 ?_
        refine lv_iload_n (pc := 74) hx hb dX5_row_74 rfl (lv_at hl 3 rfl) ?_
        refine lv_iconst (pc := 75) (v := (ii 3)) hx hb dX5_row_75 (by decide) ?_
        refine lv_iadd (pc := 76) hx hb dX5_row_76 ?_
        replace hf := rA_s hf; obtain ⟨j12, hjj12, htj12, hij12, hf⟩ := hf
        refine x_iald (pc := 77) X V htj12 hij12 hjj12 dX5_row_77 ?_
        replace hf := b2s hf; obtain ⟨r13, I14, hk_15, hf⟩ := hf
        refine x_callV0 (pc := 78) (As := [.int (I a8 j9), .int (I a8 j10), .int (I a8 j11), .int (I a8 j12)]) (rest := []) X V (mX5_come l D dA s0 hk_15) okX5 ht7 q1728 q1730 qs48 q129 q1731 ⟨rfl, hsX5_come⟩ ⟨Nat.le_of_ble_eq_true rfl, Nat.le_of_ble_eq_true rfl⟩ rfl hl.1 rfl (Nat.le_of_ble_eq_true rfl) dX5_row_78 ⟨Nat.zero_le _, Nat.zero_le _⟩ (fun H locs V => W.eq (g2 := F0 m 81 ls [.int r13]) rfl ?_)
        refine lv_if_lt (pc := 81) (tgt := 90) hx hb dX5_row_81 (by decide) (fun c16 => ?_) (fun c16 => ?_)
        · replace hf := if_t hf c16
          exact wX5_row_b90 X hr ih hf V (lv_sub hl [0, 1, 2, 3] rfl)
        · replace hf := if_f hf c16
          replace hf := nm_s hf; obtain ⟨u17, hu17, hf⟩ := hf
          refine lv_iinc (pc := 84) (v := u17) (lv' := [(2, .int u17), (0, .ref x0), (1, .int x1), (3, .int x3)]) hx hb dX5_row_84 hl (k := 2) rfl (by rw [hu17]; rfl) (by decide) rfl (fun ls hl => ?_)
          refine lv_goto (pc := 87) (tgt := 100) hx hb dX5_row_87 (by decide) ?_
          replace hf := nm_s hf; obtain ⟨u18, hu18, hf⟩ := hf
          refine lv_iinc (pc := 100) (v := u18) (lv' := [(3, .int u18), (2, .int u17), (0, .ref x0), (1, .int x1)]) hx hb dX5_row_100 hl (k := 3) rfl (by rw [hu18]; rfl) (by decide) rfl (fun ls hl => ?_)
          refine lv_goto (pc := 103) (tgt := 35) hx hb dX5_row_103 (by decide) ?_
          exact ih hf V (lv_sub hl [2, 3, 1, 0] rfl)
set_option maxHeartbeats 400000 in
set_option maxRecDepth 100000 in
theorem wX5_row_e {nf : Nat} {p : Program} {l : Launch} {e : Env} {s : State} {m : MethodId} {args : Array Value} {below : List Frame} {meth : Method} {c : Code} {D : va_G} {dA : Nat → ClassId} {s0 : Nat} {T : xT} {N : xT} {Z : Nat} {I : xI} {L : xL} {R : xR} {H : Heap} {locs : List Loc} {ls : Array Slot} {x0 : Nat} {ro : Int32} {Io : xI} (X : Cx D dA s0 p m c cX5_row 4 s args RX5 meth) (hr : meth.sig.returnType = (some .int)) (hf : fX5_row nf T N I R x0 = some (ro, Io)) (V : Iv D dA s0 s T N Z I L R H locs) (hl : lv_has ls 4 [(0, .ref x0)]) : W p l e { frames := 3, cells := 0, slots := 0, locals := 70 } s m args below meth c H locs 0 0 (MQ below (xQ D dA s0 (some (.int ro)) T N Z Io L R) args s 0 0 (fun q => s0 ≤ q)) (F0 m 0 ls []) := by
  have hx := X.1.1
  have hb := X.1.2.1
  unfold fX5_row at hf
  refine lv_aload_n (pc := 0) hx hb dX5_row_0 rfl (lv_at hl 0 rfl) ?_
  refine lv_iconst (pc := 1) (v := (ii 0)) hx hb dX5_row_1 (by decide) ?_
  replace hf := tg_s hf; obtain ⟨ht1, hf⟩ := hf
  replace hf := nm_s hf; obtain ⟨I2, hI2, hf⟩ := hf
  refine x_puti (pc := 2) X V okX5 (by decide) ht1 0 (by decide) q1521 (Or.inl rfl) hI2 (fun _ _ _ => rfl) rfl rfl dX5_row_2 (fun H locs V => ?_)
  refine lv_aload_n (pc := 5) hx hb dX5_row_5 rfl (lv_at hl 0 rfl) ?_
  refine x_get (pc := 6) X V okX5 ht1 13 (by decide) q1534 (v := .int (I2 x0 13)) rfl dX5_row_6 ?_
  replace hf := nm_s hf; obtain ⟨u3, hu3, hf⟩ := hf
  refine x_topi hu3 ?_
  refine lv_istore_n (pc := 9) (lv' := [(1, .int u3), (0, .ref x0)]) hx hb dX5_row_9 rfl hl (by decide) rfl (fun ls hl => ?_)
  refine lv_aload_n (pc := 10) hx hb dX5_row_10 rfl (lv_at hl 1 rfl) ?_
  refine lv_iconst (pc := 11) (v := (ii 0)) hx hb dX5_row_11 (by decide) ?_
  replace hf := nm_s hf; obtain ⟨I4, hI4, hf⟩ := hf
  refine x_puti (pc := 12) X V okX5 (by decide) ht1 13 (by decide) q1534 (Or.inl rfl) hI4 (fun _ _ _ => rfl) rfl rfl dX5_row_12 (fun H locs V => ?_)
  refine lv_iload_n (pc := 15) hx hb dX5_row_15 rfl (lv_at hl 0 rfl) ?_
  refine lv_if_ne (pc := 16) (tgt := 26) hx hb dX5_row_16 (by decide) (fun c5 => ?_) (fun c5 => ?_)
  · replace hf := if_f hf c5
    refine lv_aload_n (pc := 26) hx hb dX5_row_26 rfl (lv_at hl 1 rfl) ?_
    refine lv_iconst (pc := 27) (v := (ii 0)) hx hb dX5_row_27 (by decide) ?_
    replace hf := nm_s hf; obtain ⟨I6, hI6, hf⟩ := hf
    refine x_puti (pc := 28) X V okX5 (by decide) ht1 11 (by decide) q1532 (Or.inl rfl) hI6 (fun _ _ _ => rfl) rfl rfl dX5_row_28 (fun H locs V => ?_)
    refine lv_iconst (pc := 31) (v := (ii 0)) hx hb dX5_row_31 (by decide) ?_
    refine lv_istore_n (pc := 32) (lv' := [(2, .int (ii 0)), (1, .int u3), (0, .ref x0)]) hx hb dX5_row_32 rfl hl (by decide) rfl (fun ls hl => ?_)
    refine lv_iconst (pc := 33) (v := (ii 0)) hx hb dX5_row_33 (by decide) ?_
    refine lv_istore_n (pc := 34) (lv' := [(3, .int (ii 0)), (2, .int (ii 0)), (1, .int u3), (0, .ref x0)]) hx hb dX5_row_34 rfl hl (by decide) rfl (fun ls hl => ?_)
    exact wX5_row_b35 X hr nf hf V (lv_sub hl [3, 2, 1, 0] rfl)
  · replace hf := if_t hf c5
    refine lv_aload_n (pc := 19) hx hb dX5_row_19 rfl (lv_at hl 1 rfl) ?_
    refine lv_bipush (pc := 20) (v := (-6 : Int32)) hx hb dX5_row_20 (by decide) ?_
    replace hf := b2s hf; obtain ⟨r7, I8, hk_9, hf⟩ := hf
    refine x_callV0 (pc := 22) (As := [.int (-6 : Int32)]) (rest := []) X V (mX5_tell l D dA s0 hk_9) okX5 ht1 q1701 q1703 qs45 q129 q1704 ⟨rfl, hsX5_tell⟩ ⟨Nat.le_of_ble_eq_true rfl, Nat.le_of_ble_eq_true rfl⟩ rfl hl.1 rfl (Nat.le_of_ble_eq_true rfl) dX5_row_22 ⟨Nat.zero_le _, Nat.zero_le _⟩ (fun H locs V => W.eq (g2 := F0 m 25 ls [.int r7]) rfl ?_)
    cases hf
    exact x_iret (pc := 25) X V hr dX5_row_25
theorem mX5_row {nf : Nat} (l : Launch) (D : va_G) (dA : Nat → ClassId) (s0 : Nat) {T : xT} {N : xT} {Z : Nat} {I : xI} {L : xL} {R : xR} {x0 : Nat} {ro : Int32} {Io : xI} (hf : fX5_row nf T N I R x0 = some (ro, Io)) : XMet l D dA s0 yX5_row (ws_ yX5_row cX5_row 4 ((some .int))) (3) (70) [.ref x0] T N Z I L R (some (.int ro)) T N Z Io L R 0 0 :=
  x_start (own := RX5) rfl (by decide) (Nat.le_of_ble_eq_true rfl) (lv := [(0, .ref x0)]) rfl (fun p e s m below meth c ls X hr hini V hl => wX5_row_e X hr hf V hl)
set_option maxHeartbeats 400000 in
set_option maxRecDepth 100000 in
theorem wX5_gravel_e {p : Program} {l : Launch} {e : Env} {s : State} {m : MethodId} {args : Array Value} {below : List Frame} {meth : Method} {c : Code} {D : va_G} {dA : Nat → ClassId} {s0 : Nat} {T : xT} {N : xT} {Z : Nat} {I : xI} {L : xL} {R : xR} {H : Heap} {locs : List Loc} {ls : Array Slot} {x0 : Nat} {ro : Int32} {Io : xI} (X : Cx D dA s0 p m c cX5_gravel 1 s args RX5 meth) (hr : meth.sig.returnType = (some .int)) (hf : fX5_gravel T I x0 = some (ro, Io)) (V : Iv D dA s0 s T N Z I L R H locs) (hl : lv_has ls 1 [(0, .ref x0)]) : W p l e { frames := 0, cells := 0, slots := 0, locals := 0 } s m args below meth c H locs 0 0 (MQ below (xQ D dA s0 (some (.int ro)) T N Z Io L R) args s 0 0 (fun q => s0 ≤ q)) (F0 m 0 ls []) := by
  have hx := X.1.1
  have hb := X.1.2.1
  unfold fX5_gravel at hf
  refine lv_aload_n (pc := 0) hx hb dX5_gravel_0 rfl (lv_at hl 0 rfl) ?_
  refine lv_iconst (pc := 1) (v := (ii 0)) hx hb dX5_gravel_1 (by decide) ?_
  replace hf := tg_s hf; obtain ⟨ht1, hf⟩ := hf
  replace hf := nm_s hf; obtain ⟨I2, hI2, hf⟩ := hf
  refine x_puti (pc := 2) X V okX5 (by decide) ht1 0 (by decide) q1521 (Or.inl rfl) hI2 (fun _ _ _ => rfl) rfl rfl dX5_gravel_2 (fun H locs V => ?_)
  refine lv_aload_n (pc := 5) hx hb dX5_gravel_5 rfl (lv_at hl 0 rfl) ?_
  refine x_get (pc := 6) X V okX5 ht1 11 (by decide) q1532 (v := .int (I2 x0 11)) rfl dX5_gravel_6 ?_
  cases hf
  exact x_iret (pc := 9) X V hr dX5_gravel_9
theorem mX5_gravel (l : Launch) (D : va_G) (dA : Nat → ClassId) (s0 : Nat) {T : xT} {N : xT} {Z : Nat} {I : xI} {L : xL} {R : xR} {x0 : Nat} {ro : Int32} {Io : xI} (hf : fX5_gravel T I x0 = some (ro, Io)) : XMet l D dA s0 yX5_gravel (ws_ yX5_gravel cX5_gravel 1 ((some .int))) (0) (0) [.ref x0] T N Z I L R (some (.int ro)) T N Z Io L R 0 0 :=
  x_start (own := RX5) rfl (by decide) (Nat.le_of_ble_eq_true rfl) (lv := [(0, .ref x0)]) rfl (fun p e s m below meth c ls X hr hini V hl => wX5_gravel_e X hr hf V hl)
set_option maxHeartbeats 400000 in
set_option maxRecDepth 100000 in
theorem wX5_four_b3 {nf : Nat} {p : Program} {l : Launch} {e : Env} {s : State} {m : MethodId} {args : Array Value} {below : List Frame} {meth : Method} {c : Code} {D : va_G} {dA : Nat → ClassId} {s0 : Nat} {T : xT} {N : xT} {Z : Nat} {L : xL} {R : xR}  {Io : xI} (X : Cx D dA s0 p m c cX5_four 3 s args RX5 meth) (hr : meth.sig.returnType = none)   (k : Nat) : ∀ {I : xI} {x0 : Nat} {x1 : Int32} {x2 : Int32} {H : Heap} {locs : List Loc} {ls : Array Slot} , fX5_four_b3 nf T N R k I x0 x1 x2 = some Io → Iv D dA s0 s T N Z I L R H locs → lv_has ls 3 [(0, .ref x0), (1, .int x1), (2, .int x2)] → W p l e { frames := 0, cells := 0, slots := 0, locals := 0 } s m args below meth c H locs 0 0 (MQ below (xQ D dA s0 none T N Z Io L R) args s 0 0 (fun q => s0 ≤ q)) (F0 m 3 ls []) := by
  have hx := X.1.1
  have hb := X.1.2.1
  induction k with
  | zero =>
    intro I x0 x1 x2 H locs ls hf V hl
    exact absurd (show none = some _ from hf) (fun q => nomatch q)
  | succ k ih =>
    intro I x0 x1 x2 H locs ls hf V hl
    rw [fX5_four_b3] at hf
    refine lv_iload_n (pc := 3) hx hb dX5_four_3 rfl (lv_at hl 2 rfl) ?_
    refine lv_if_lt (pc := 4) (tgt := 39) hx hb dX5_four_4 (by decide) (fun c1 => ?_) (fun c1 => ?_)
    · replace hf := if_t hf c1
      cases hf
      exact x_vret (pc := 39) X V hr dX5_four_39
    · replace hf := if_f hf c1
      refine lv_aload_n (pc := 7) hx hb dX5_four_7 rfl (lv_at hl 0 rfl) ?_
      replace hf := tg_s hf; obtain ⟨ht2, hf⟩ := hf
      replace hf := bs hf; obtain ⟨a3, ha3, hf⟩ := hf
      refine x_get (pc := 8) X V okX5 ht2 12 (by decide) q1533 (v := va_rf (R x0 12)) rfl dX5_four_8 ?_
      refine x_topr ha3 ?_
      refine lv_aload_n (pc := 11) hx hb dX5_four_11 rfl (lv_at hl 0 rfl) ?_
      refine x_get (pc := 12) X V okX5 ht2 13 (by decide) q1534 (v := .int (I x0 13)) rfl dX5_four_12 ?_
      refine lv_iload_n (pc := 15) hx hb dX5_four_15 rfl (lv_at hl 1 rfl) ?_
      refine lv_iload_n (pc := 16) hx hb dX5_four_16 rfl (lv_at hl 2 rfl) ?_
      refine lv_ishr (pc := 17) hx hb dX5_four_17 ?_
      refine lv_sipush (pc := 18) (v := (ii 255)) hx hb dX5_four_18 (by decide) ?_
      refine lv_iand (pc := 21) hx hb dX5_four_21 ?_
      replace hf := rA_s hf; obtain ⟨j4, hjj4, htj4, hij4, hf⟩ := hf
      replace hf := nm_s hf; obtain ⟨I5, hI5, hf⟩ := hf
      refine x_iast (pc := 22) X V htj4 hij4 hjj4 hI5 dX5_four_22 (fun H locs V => ?_)
      refine lv_aload_n (pc := 23) hx hb dX5_four_23 rfl (lv_at hl 0 rfl) ?_
      refine lv_dup (pc := 24) hx hb dX5_four_24 rfl ?_
      refine x_get (pc := 25) X V okX5 ht2 13 (by decide) q1534 (v := .int (I5 x0 13)) rfl dX5_four_25 ?_
      refine lv_iconst (pc := 28) (v := (ii 1)) hx hb dX5_four_28 (by decide) ?_
      refine lv_iadd (pc := 29) hx hb dX5_four_29 ?_
      replace hf := nm_s hf; obtain ⟨I6, hI6, hf⟩ := hf
      refine x_puti (pc := 30) X V okX5 (by decide) ht2 13 (by decide) q1534 (Or.inl rfl) hI6 (fun _ _ _ => rfl) rfl rfl dX5_four_30 (fun H locs V => ?_)
      replace hf := nm_s hf; obtain ⟨u7, hu7, hf⟩ := hf
      refine lv_iinc (pc := 33) (v := u7) (lv' := [(2, .int u7), (0, .ref x0), (1, .int x1)]) hx hb dX5_four_33 hl (k := 2) rfl (by rw [hu7]; rfl) (by decide) rfl (fun ls hl => ?_)
      refine lv_goto (pc := 36) (tgt := 3) hx hb dX5_four_36 (by decide) ?_
      exact ih hf V (lv_sub hl [1, 2, 0] rfl)
set_option maxHeartbeats 400000 in
set_option maxRecDepth 100000 in
theorem wX5_four_e {nf : Nat} {p : Program} {l : Launch} {e : Env} {s : State} {m : MethodId} {args : Array Value} {below : List Frame} {meth : Method} {c : Code} {D : va_G} {dA : Nat → ClassId} {s0 : Nat} {T : xT} {N : xT} {Z : Nat} {I : xI} {L : xL} {R : xR} {H : Heap} {locs : List Loc} {ls : Array Slot} {x0 : Nat} {x1 : Int32} {Io : xI} (X : Cx D dA s0 p m c cX5_four 3 s args RX5 meth) (hr : meth.sig.returnType = none) (hf : fX5_four nf T N I R x0 x1 = some Io) (V : Iv D dA s0 s T N Z I L R H locs) (hl : lv_has ls 3 [(0, .ref x0), (1, .int x1)]) : W p l e { frames := 0, cells := 0, slots := 0, locals := 0 } s m args below meth c H locs 0 0 (MQ below (xQ D dA s0 none T N Z Io L R) args s 0 0 (fun q => s0 ≤ q)) (F0 m 0 ls []) := by
  have hx := X.1.1
  have hb := X.1.2.1
  unfold fX5_four at hf
  refine lv_bipush (pc := 0) (v := (ii 24)) hx hb dX5_four_0 (by decide) ?_
  refine lv_istore_n (pc := 2) (lv' := [(2, .int (ii 24)), (0, .ref x0), (1, .int x1)]) hx hb dX5_four_2 rfl hl (by decide) rfl (fun ls hl => ?_)
  exact wX5_four_b3 X hr nf hf V (lv_sub hl [1, 2, 0] rfl)
theorem mX5_four {nf : Nat} (l : Launch) (D : va_G) (dA : Nat → ClassId) (s0 : Nat) {T : xT} {N : xT} {Z : Nat} {I : xI} {L : xL} {R : xR} {x0 : Nat} {x1 : Int32} {Io : xI} (hf : fX5_four nf T N I R x0 x1 = some Io) : XMet l D dA s0 yX5_four (ws_ yX5_four cX5_four 3 (none)) (0) (0) [.ref x0, .int x1] T N Z I L R none T N Z Io L R 0 0 :=
  x_start (own := RX5) rfl (by decide) (Nat.le_of_ble_eq_true rfl) (lv := [(0, .ref x0), (1, .int x1)]) rfl (fun p e s m below meth c ls X hr hini V hl => wX5_four_e X hr hf V hl)
set_option maxHeartbeats 400000 in
set_option maxRecDepth 100000 in
theorem wX5_feed_e {nf : Nat} {p : Program} {l : Launch} {e : Env} {s : State} {m : MethodId} {args : Array Value} {below : List Frame} {meth : Method} {c : Code} {D : va_G} {dA : Nat → ClassId} {s0 : Nat} {T : xT} {N : xT} {Z : Nat} {I : xI} {L : xL} {R : xR} {H : Heap} {locs : List Loc} {ls : Array Slot} {x0 : Nat} {x1 : Int32} {x2 : Int32} {x3 : Int32} {x4 : Int32} {x5 : Int32} {ro : Int32} {Io : xI} (X : Cx D dA s0 p m c cX5_feed 6 s args RX5 meth) (hr : meth.sig.returnType = (some .int)) (hf : fX5_feed nf T N I R x0 x1 x2 x3 x4 x5 = some (ro, Io)) (V : Iv D dA s0 s T N Z I L R H locs) (hl : lv_has ls 6 [(0, .ref x0), (1, .int x1), (2, .int x2), (3, .int x3), (4, .int x4), (5, .int x5)]) : W p l e { frames := 1, cells := 0, slots := 0, locals := 22 } s m args below meth c H locs 0 0 (MQ below (xQ D dA s0 (some (.int ro)) T N Z Io L R) args s 0 0 (fun q => s0 ≤ q)) (F0 m 0 ls []) := by
  have hx := X.1.1
  have hb := X.1.2.1
  unfold fX5_feed at hf
  refine lv_aload_n (pc := 0) hx hb dX5_feed_0 rfl (lv_at hl 0 rfl) ?_
  refine lv_iconst (pc := 1) (v := (ii 0)) hx hb dX5_feed_1 (by decide) ?_
  replace hf := tg_s hf; obtain ⟨ht1, hf⟩ := hf
  replace hf := nm_s hf; obtain ⟨I2, hI2, hf⟩ := hf
  refine x_puti (pc := 2) X V okX5 (by decide) ht1 0 (by decide) q1521 (Or.inl rfl) hI2 (fun _ _ _ => rfl) rfl rfl dX5_feed_2 (fun H locs V => ?_)
  refine lv_aload_n (pc := 5) hx hb dX5_feed_5 rfl (lv_at hl 0 rfl) ?_
  refine x_get (pc := 6) X V okX5 ht1 13 (by decide) q1534 (v := .int (I2 x0 13)) rfl dX5_feed_6 ?_
  refine lv_bipush (pc := 9) (v := (ii 20)) hx hb dX5_feed_9 (by decide) ?_
  refine lv_iadd (pc := 11) hx hb dX5_feed_11 ?_
  refine lv_sipush (pc := 12) (v := (ii 400)) hx hb dX5_feed_12 (by decide) ?_
  refine lv_icmp_le (pc := 15) (tgt := 20) hx hb dX5_feed_15 (by decide) (fun c3 => ?_) (fun c3 => ?_)
  · replace hf := if_t hf c3
    refine lv_aload_n (pc := 20) hx hb dX5_feed_20 rfl (lv_at hl 0 rfl) ?_
    refine lv_iload_n (pc := 21) hx hb dX5_feed_21 rfl (lv_at hl 1 rfl) ?_
    replace hf := bs hf; obtain ⟨I4, hk_5, hf⟩ := hf
    refine x_callV0 (pc := 22) (As := [.int x1]) (rest := []) X V (mX5_four l D dA s0 hk_5) okX5 ht1 q1830 q1832 qs62 q129 q1833 ⟨rfl, hsX5_four⟩ ⟨Nat.le_of_ble_eq_true rfl, Nat.le_of_ble_eq_true rfl⟩ rfl hl.1 rfl (Nat.le_of_ble_eq_true rfl) dX5_feed_22 ⟨Nat.zero_le _, Nat.zero_le _⟩ (fun H locs V => W.eq (g2 := F0 m 25 ls []) rfl ?_)
    refine lv_aload_n (pc := 25) hx hb dX5_feed_25 rfl (lv_at hl 0 rfl) ?_
    refine lv_iload_n (pc := 26) hx hb dX5_feed_26 rfl (lv_at hl 2 rfl) ?_
    replace hf := bs hf; obtain ⟨I6, hk_7, hf⟩ := hf
    refine x_callV0 (pc := 27) (As := [.int x2]) (rest := []) X V (mX5_four l D dA s0 hk_7) okX5 ht1 q1830 q1832 qs62 q129 q1833 ⟨rfl, hsX5_four⟩ ⟨Nat.le_of_ble_eq_true rfl, Nat.le_of_ble_eq_true rfl⟩ rfl hl.1 rfl (Nat.le_of_ble_eq_true rfl) dX5_feed_27 ⟨Nat.zero_le _, Nat.zero_le _⟩ (fun H locs V => W.eq (g2 := F0 m 30 ls []) rfl ?_)
    refine lv_aload_n (pc := 30) hx hb dX5_feed_30 rfl (lv_at hl 0 rfl) ?_
    refine lv_iload_n (pc := 31) hx hb dX5_feed_31 rfl (lv_at hl 3 rfl) ?_
    replace hf := bs hf; obtain ⟨I8, hk_9, hf⟩ := hf
    refine x_callV0 (pc := 32) (As := [.int x3]) (rest := []) X V (mX5_four l D dA s0 hk_9) okX5 ht1 q1830 q1832 qs62 q129 q1833 ⟨rfl, hsX5_four⟩ ⟨Nat.le_of_ble_eq_true rfl, Nat.le_of_ble_eq_true rfl⟩ rfl hl.1 rfl (Nat.le_of_ble_eq_true rfl) dX5_feed_32 ⟨Nat.zero_le _, Nat.zero_le _⟩ (fun H locs V => W.eq (g2 := F0 m 35 ls []) rfl ?_)
    refine lv_aload_n (pc := 35) hx hb dX5_feed_35 rfl (lv_at hl 0 rfl) ?_
    refine lv_iload (pc := 36) hx hb dX5_feed_36 (lv_at hl 4 rfl) ?_
    replace hf := bs hf; obtain ⟨I10, hk_11, hf⟩ := hf
    refine x_callV0 (pc := 38) (As := [.int x4]) (rest := []) X V (mX5_four l D dA s0 hk_11) okX5 ht1 q1830 q1832 qs62 q129 q1833 ⟨rfl, hsX5_four⟩ ⟨Nat.le_of_ble_eq_true rfl, Nat.le_of_ble_eq_true rfl⟩ rfl hl.1 rfl (Nat.le_of_ble_eq_true rfl) dX5_feed_38 ⟨Nat.zero_le _, Nat.zero_le _⟩ (fun H locs V => W.eq (g2 := F0 m 41 ls []) rfl ?_)
    refine lv_aload_n (pc := 41) hx hb dX5_feed_41 rfl (lv_at hl 0 rfl) ?_
    refine lv_iload (pc := 42) hx hb dX5_feed_42 (lv_at hl 5 rfl) ?_
    replace hf := bs hf; obtain ⟨I12, hk_13, hf⟩ := hf
    refine x_callV0 (pc := 44) (As := [.int x5]) (rest := []) X V (mX5_four l D dA s0 hk_13) okX5 ht1 q1830 q1832 qs62 q129 q1833 ⟨rfl, hsX5_four⟩ ⟨Nat.le_of_ble_eq_true rfl, Nat.le_of_ble_eq_true rfl⟩ rfl hl.1 rfl (Nat.le_of_ble_eq_true rfl) dX5_feed_44 ⟨Nat.zero_le _, Nat.zero_le _⟩ (fun H locs V => W.eq (g2 := F0 m 47 ls []) rfl ?_)
    refine lv_aload_n (pc := 47) hx hb dX5_feed_47 rfl (lv_at hl 0 rfl) ?_
    refine x_get (pc := 48) X V okX5 ht1 13 (by decide) q1534 (v := .int (I12 x0 13)) rfl dX5_feed_48 ?_
    cases hf
    exact x_iret (pc := 51) X V hr dX5_feed_51
  · replace hf := if_f hf c3
    refine lv_iconst (pc := 18) (v := (-1 : Int32)) hx hb dX5_feed_18 (by decide) ?_
    cases hf
    exact x_iret (pc := 19) X V hr dX5_feed_19
theorem mX5_feed {nf : Nat} (l : Launch) (D : va_G) (dA : Nat → ClassId) (s0 : Nat) {T : xT} {N : xT} {Z : Nat} {I : xI} {L : xL} {R : xR} {x0 : Nat} {x1 : Int32} {x2 : Int32} {x3 : Int32} {x4 : Int32} {x5 : Int32} {ro : Int32} {Io : xI} (hf : fX5_feed nf T N I R x0 x1 x2 x3 x4 x5 = some (ro, Io)) : XMet l D dA s0 yX5_feed (ws_ yX5_feed cX5_feed 6 ((some .int))) (1) (22) [.ref x0, .int x1, .int x2, .int x3, .int x4, .int x5] T N Z I L R (some (.int ro)) T N Z Io L R 0 0 :=
  x_start (own := RX5) rfl (by decide) (Nat.le_of_ble_eq_true rfl) (lv := [(0, .ref x0), (1, .int x1), (2, .int x2), (3, .int x3), (4, .int x4), (5, .int x5)]) rfl (fun p e s m below meth c ls X hr hini V hl => wX5_feed_e X hr hf V hl)
set_option maxHeartbeats 400000 in
set_option maxRecDepth 100000 in
theorem wX5_end_e {p : Program} {l : Launch} {e : Env} {s : State} {m : MethodId} {args : Array Value} {below : List Frame} {meth : Method} {c : Code} {D : va_G} {dA : Nat → ClassId} {s0 : Nat} {T : xT} {N : xT} {Z : Nat} {I : xI} {L : xL} {R : xR} {H : Heap} {locs : List Loc} {ls : Array Slot} {x0 : Nat} {x1 : Int32} {ro : Int32} {Io : xI} (X : Cx D dA s0 p m c cX5_end 2 s args RX5 meth) (hr : meth.sig.returnType = (some .int)) (hf : fX5_end T I x0 x1 = some (ro, Io)) (V : Iv D dA s0 s T N Z I L R H locs) (hl : lv_has ls 2 [(0, .ref x0), (1, .int x1)]) : W p l e { frames := 0, cells := 0, slots := 0, locals := 0 } s m args below meth c H locs 0 0 (MQ below (xQ D dA s0 (some (.int ro)) T N Z Io L R) args s 0 0 (fun q => s0 ≤ q)) (F0 m 0 ls []) := by
  have hx := X.1.1
  have hb := X.1.2.1
  unfold fX5_end at hf
  refine lv_aload_n (pc := 0) hx hb dX5_end_0 rfl (lv_at hl 0 rfl) ?_
  refine lv_iconst (pc := 1) (v := (ii 0)) hx hb dX5_end_1 (by decide) ?_
  replace hf := tg_s hf; obtain ⟨ht1, hf⟩ := hf
  replace hf := nm_s hf; obtain ⟨I2, hI2, hf⟩ := hf
  refine x_puti (pc := 2) X V okX5 (by decide) ht1 0 (by decide) q1521 (Or.inl rfl) hI2 (fun _ _ _ => rfl) rfl rfl dX5_end_2 (fun H locs V => ?_)
  refine lv_iload_n (pc := 5) hx hb dX5_end_5 rfl (lv_at hl 1 rfl) ?_
  refine lv_if_lt (pc := 6) (tgt := 17) hx hb dX5_end_6 (by decide) (fun c3 => ?_) (fun c3 => ?_)
  · replace hf := if_t hf c3
    refine lv_iconst (pc := 17) (v := (-1 : Int32)) hx hb dX5_end_17 (by decide) ?_
    cases hf
    exact x_iret (pc := 18) X V hr dX5_end_18
  · replace hf := if_f hf c3
    refine lv_iload_n (pc := 9) hx hb dX5_end_9 rfl (lv_at hl 1 rfl) ?_
    refine lv_aload_n (pc := 10) hx hb dX5_end_10 rfl (lv_at hl 0 rfl) ?_
    refine x_get (pc := 11) X V okX5 ht1 13 (by decide) q1534 (v := .int (I2 x0 13)) rfl dX5_end_11 ?_
    refine lv_icmp_le (pc := 14) (tgt := 19) hx hb dX5_end_14 (by decide) (fun c4 => ?_) (fun c4 => ?_)
    · replace hf := if_t hf c4
      refine lv_aload_n (pc := 19) hx hb dX5_end_19 rfl (lv_at hl 0 rfl) ?_
      refine lv_iload_n (pc := 20) hx hb dX5_end_20 rfl (lv_at hl 1 rfl) ?_
      replace hf := nm_s hf; obtain ⟨I5, hI5, hf⟩ := hf
      refine x_puti (pc := 21) X V okX5 (by decide) ht1 13 (by decide) q1534 (Or.inl rfl) hI5 (fun _ _ _ => rfl) rfl rfl dX5_end_21 (fun H locs V => ?_)
      refine lv_iload_n (pc := 24) hx hb dX5_end_24 rfl (lv_at hl 1 rfl) ?_
      cases hf
      exact x_iret (pc := 25) X V hr dX5_end_25
    · replace hf := if_f hf c4
      refine lv_iconst (pc := 17) (v := (-1 : Int32)) hx hb dX5_end_17 (by decide) ?_
      cases hf
      exact x_iret (pc := 18) X V hr dX5_end_18
theorem mX5_end (l : Launch) (D : va_G) (dA : Nat → ClassId) (s0 : Nat) {T : xT} {N : xT} {Z : Nat} {I : xI} {L : xL} {R : xR} {x0 : Nat} {x1 : Int32} {ro : Int32} {Io : xI} (hf : fX5_end T I x0 x1 = some (ro, Io)) : XMet l D dA s0 yX5_end (ws_ yX5_end cX5_end 2 ((some .int))) (0) (0) [.ref x0, .int x1] T N Z I L R (some (.int ro)) T N Z Io L R 0 0 :=
  x_start (own := RX5) rfl (by decide) (Nat.le_of_ble_eq_true rfl) (lv := [(0, .ref x0), (1, .int x1)]) rfl (fun p e s m below meth c ls X hr hini V hl => wX5_end_e X hr hf V hl)
set_option maxHeartbeats 400000 in
set_option maxRecDepth 100000 in
theorem wX5_fault_e {p : Program} {l : Launch} {e : Env} {s : State} {m : MethodId} {args : Array Value} {below : List Frame} {meth : Method} {c : Code} {D : va_G} {dA : Nat → ClassId} {s0 : Nat} {T : xT} {N : xT} {Z : Nat} {I : xI} {L : xL} {R : xR} {H : Heap} {locs : List Loc} {ls : Array Slot} {x0 : Nat} {ro : Int32} {Io : xI} (X : Cx D dA s0 p m c cX5_fault 1 s args RX5 meth) (hr : meth.sig.returnType = (some .int)) (hf : fX5_fault T I x0 = some (ro, Io)) (V : Iv D dA s0 s T N Z I L R H locs) (hl : lv_has ls 1 [(0, .ref x0)]) : W p l e { frames := 0, cells := 0, slots := 0, locals := 0 } s m args below meth c H locs 0 0 (MQ below (xQ D dA s0 (some (.int ro)) T N Z Io L R) args s 0 0 (fun q => s0 ≤ q)) (F0 m 0 ls []) := by
  have hx := X.1.1
  have hb := X.1.2.1
  unfold fX5_fault at hf
  refine lv_aload_n (pc := 0) hx hb dX5_fault_0 rfl (lv_at hl 0 rfl) ?_
  refine lv_iconst (pc := 1) (v := (ii 0)) hx hb dX5_fault_1 (by decide) ?_
  replace hf := tg_s hf; obtain ⟨ht1, hf⟩ := hf
  replace hf := nm_s hf; obtain ⟨I2, hI2, hf⟩ := hf
  refine x_puti (pc := 2) X V okX5 (by decide) ht1 0 (by decide) q1521 (Or.inl rfl) hI2 (fun _ _ _ => rfl) rfl rfl dX5_fault_2 (fun H locs V => ?_)
  refine lv_aload_n (pc := 5) hx hb dX5_fault_5 rfl (lv_at hl 0 rfl) ?_
  refine x_get (pc := 6) X V okX5 ht1 18 (by decide) q1539 (v := .int (I2 x0 18)) rfl dX5_fault_6 ?_
  cases hf
  exact x_iret (pc := 9) X V hr dX5_fault_9
theorem mX5_fault (l : Launch) (D : va_G) (dA : Nat → ClassId) (s0 : Nat) {T : xT} {N : xT} {Z : Nat} {I : xI} {L : xL} {R : xR} {x0 : Nat} {ro : Int32} {Io : xI} (hf : fX5_fault T I x0 = some (ro, Io)) : XMet l D dA s0 yX5_fault (ws_ yX5_fault cX5_fault 1 ((some .int))) (0) (0) [.ref x0] T N Z I L R (some (.int ro)) T N Z Io L R 0 0 :=
  x_start (own := RX5) rfl (by decide) (Nat.le_of_ble_eq_true rfl) (lv := [(0, .ref x0)]) rfl (fun p e s m below meth c ls X hr hini V hl => wX5_fault_e X hr hf V hl)
set_option maxHeartbeats 400000 in
set_option maxRecDepth 100000 in
theorem wX5_isSmall_e {p : Program} {l : Launch} {e : Env} {s : State} {m : MethodId} {args : Array Value} {below : List Frame} {meth : Method} {c : Code} {D : va_G} {dA : Nat → ClassId} {s0 : Nat} {T : xT} {N : xT} {Z : Nat} {I : xI} {L : xL} {R : xR} {H : Heap} {locs : List Loc} {ls : Array Slot} {x0 : Int32} {ro : Int32} (X : Cx D dA s0 p m c cX5_isSmall 1 s args RX5 meth) (hr : meth.sig.returnType = (some .boolean)) (hf : fX5_isSmall x0 = some ro) (V : Iv D dA s0 s T N Z I L R H locs) (hl : lv_has ls 1 [(0, .int x0)]) : W p l e { frames := 0, cells := 0, slots := 0, locals := 0 } s m args below meth c H locs 0 0 (MQ below (xQ D dA s0 (some (.int ro)) T N Z I L R) args s 0 0 (fun q => s0 ≤ q)) (F0 m 0 ls []) := by
  have hx := X.1.1
  have hb := X.1.2.1
  unfold fX5_isSmall at hf
  refine lv_iload_n (pc := 0) hx hb dX5_isSmall_0 rfl (lv_at hl 0 rfl) ?_
  refine lv_bipush (pc := 1) (v := (ii 97)) hx hb dX5_isSmall_1 (by decide) ?_
  refine lv_icmp_lt (pc := 3) (tgt := 16) hx hb dX5_isSmall_3 (by decide) (fun c1 => ?_) (fun c1 => ?_)
  · replace hf := if_t hf c1
    refine lv_iconst (pc := 16) (v := (ii 0)) hx hb dX5_isSmall_16 (by decide) ?_
    cases hf
    exact x_zret (pc := 17) X V hr (by decide) dX5_isSmall_17
  · replace hf := if_f hf c1
    refine lv_iload_n (pc := 6) hx hb dX5_isSmall_6 rfl (lv_at hl 0 rfl) ?_
    refine lv_bipush (pc := 7) (v := (ii 122)) hx hb dX5_isSmall_7 (by decide) ?_
    refine lv_icmp_gt (pc := 9) (tgt := 16) hx hb dX5_isSmall_9 (by decide) (fun c2 => ?_) (fun c2 => ?_)
    · replace hf := if_t hf c2
      refine lv_iconst (pc := 16) (v := (ii 0)) hx hb dX5_isSmall_16 (by decide) ?_
      cases hf
      exact x_zret (pc := 17) X V hr (by decide) dX5_isSmall_17
    · replace hf := if_f hf c2
      refine lv_iconst (pc := 12) (v := (ii 1)) hx hb dX5_isSmall_12 (by decide) ?_
      refine lv_goto (pc := 13) (tgt := 17) hx hb dX5_isSmall_13 (by decide) ?_
      cases hf
      exact x_zret (pc := 17) X V hr (by decide) dX5_isSmall_17
theorem mX5_isSmall (l : Launch) (D : va_G) (dA : Nat → ClassId) (s0 : Nat) {T : xT} {N : xT} {Z : Nat} {I : xI} {L : xL} {R : xR} {x0 : Int32} {ro : Int32} (hf : fX5_isSmall x0 = some ro) : XMet l D dA s0 yX5_isSmall (ws_ yX5_isSmall cX5_isSmall 1 ((some .boolean))) (0) (0) [.int x0] T N Z I L R (some (.int ro)) T N Z I L R 0 0 :=
  x_start (own := RX5) rfl (by decide) (Nat.le_of_ble_eq_true rfl) (lv := [(0, .int x0)]) rfl (fun p e s m below meth c ls X hr hini V hl => wX5_isSmall_e X hr hf V hl)
