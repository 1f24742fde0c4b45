set_option maxHeartbeats 400000 in
set_option maxRecDepth 100000 in
theorem zX0_init_b221 {nf : Nat} {dA : Nat → ClassId} {T : xT} {N : xT} {Z : Nat} {S : Nat} {I : xI} {R : xR} {kk190 : xT → xT → Nat → Nat → xI → xR → Nat → Int32 → Option (xT × xT × Nat × Nat × xI × xR)} {x0 : Nat} {x1 : Int32} {z0 : Nat} {z1 : Int32} {z2 : Nat} {To : xT} {No : xT} {Zo : Nat} {So : Nat} {Io : xI} {Ro : xR} (hm190 : ∀ {T : xT} {N : xT} {Z : Nat} {S : Nat} {I : xI} {R : xR} {x0 : Nat} {x1 : Int32}, kk190 T N Z S I R x0 x1 = some (To, No, Zo, So, Io, Ro) → Z ≤ Zo ∧ S ≤ So) (hf : fX0_init_b221 nf kk190 (sv dA) T N Z S I R x0 x1 z0 z1 z2 = some (To, No, Zo, So, Io, Ro)) : Z ≤ Zo ∧ S ≤ So := by
  unfold fX0_init_b221 at hf
  replace hf := rA_s hf; obtain ⟨j1, hjj1, htj1, hij1, hf⟩ := hf
  replace hf := tg_s hf; obtain ⟨ht2, hf⟩ := hf
  replace hf := nm_s hf; obtain ⟨R3, hR3, hf⟩ := hf
  replace hf := nm_s hf; obtain ⟨u4, hu4, hf⟩ := hf
  have hm := hm190 hf
  exact ⟨by omega, by omega⟩
set_option maxHeartbeats 400000 in
set_option maxRecDepth 100000 in
theorem wX0_init_b221 {nf : Nat} {kc ks : Nat} {cells slots : Nat} {p : Program} {l : Launch} {e : Env} {s : State} {m : MethodId} {args : Array Value} {below : List Frame} {meth : Method} {c : Code} {D : va_G} {dA : Nat → ClassId} {s0 : Nat} {T : xT} {N : xT} {Z : Nat} {S : Nat} {I : xI} {L : xL} {R : xR} {H : Heap} {locs : List Loc} {ls : Array Slot} {kk190 : xT → xT → Nat → Nat → xI → xR → Nat → Int32 → Option (xT × xT × Nat × Nat × xI × xR)} {x0 : Nat} {x1 : Int32} {z0 : Nat} {z1 : Int32} {z2 : Nat} {To : xT} {No : xT} {Zo : Nat} {So : Nat} {Io : xI} {Ro : xR} (X : Cx D dA s0 p m c cX0_init 2 s args RX0 meth) (hr : meth.sig.returnType = none) (hini : meth.name = "<init>") (hk190 : ∀ {T : xT} {N : xT} {Z : Nat} {S : Nat} {I : xI} {R : xR} {x0 : Nat} {x1 : Int32} {H : Heap} {locs : List Loc} {ls : Array Slot} {cells slots : Nat} , kk190 T N Z S I R x0 x1 = some (To, No, Zo, So, Io, Ro) → Iv D dA s0 s T N Z I L R H locs → lv_has ls 2 [(0, .ref x0), (1, .int x1)] → cells + (Zo - Z) ≤ kc ∧ slots + (So - S) ≤ ks → W p l e { frames := 5, cells := kc, slots := ks, locals := 108 } s m args below meth c H locs cells slots (MQ below (xQ D dA s0 none To No Zo Io L Ro) args s kc ks (fun q => s0 ≤ q)) (F0 m 190 ls [])) (hm190 : ∀ {T : xT} {N : xT} {Z : Nat} {S : Nat} {I : xI} {R : xR} {x0 : Nat} {x1 : Int32}, kk190 T N Z S I R x0 x1 = some (To, No, Zo, So, Io, Ro) → Z ≤ Zo ∧ S ≤ So) (hf : fX0_init_b221 nf kk190 (sv dA) T N Z S I R x0 x1 z0 z1 z2 = some (To, No, Zo, So, Io, Ro)) (V : Iv D dA s0 s T N Z I L R H locs) (hl : lv_has ls 2 [(0, .ref x0), (1, .int x1)]) (hB : cells + (Zo - Z) ≤ kc ∧ slots + (So - S) ≤ ks) : W p l e { frames := 5, cells := kc, slots := ks, locals := 108 } s m args below meth c H locs cells slots (MQ below (xQ D dA s0 none To No Zo Io L Ro) args s kc ks (fun q => s0 ≤ q)) (F0 m 221 ls [.ref z2, .int z1, .ref z0]) := by
  have hx := X.1.1
  have hb := X.1.2.1
  unfold fX0_init_b221 at hf
  replace hf := rA_s hf; obtain ⟨j1, hjj1, htj1, hij1, hf⟩ := hf
  replace hf := tg_s hf; obtain ⟨ht2, hf⟩ := hf
  replace hf := nm_s hf; obtain ⟨R3, hR3, hf⟩ := hf
  refine x_aast (pc := 221) X V (k := 6) rfl (by decide) htj1 hij1 hjj1 okX2 ht2 (Or.inl rfl) hR3 dX0_init_221 (fun H locs V => ?_)
  replace hf := nm_s hf; obtain ⟨u4, hu4, hf⟩ := hf
  refine lv_iinc (pc := 222) (v := u4) (lv' := [(1, .int u4), (0, .ref x0)]) hx hb dX0_init_222 hl (k := 1) rfl (by rw [hu4]; rfl) (by decide) rfl (fun ls hl => ?_)
  refine lv_goto (pc := 225) (tgt := 190) hx hb dX0_init_225 (by decide) ?_
  exact hk190 hf V (lv_sub hl [1, 0] rfl) ⟨by omega, by omega⟩
set_option maxHeartbeats 400000 in
set_option maxRecDepth 100000 in
theorem zX0_init_b217 {nf : Nat} {dA : Nat → ClassId} {T : xT} {N : xT} {Z : Nat} {S : Nat} {I : xI} {R : xR} {kk190 : xT → xT → Nat → Nat → xI → xR → Nat → Int32 → Option (xT × xT × Nat × Nat × xI × xR)} {x0 : Nat} {x1 : Int32} {z0 : Nat} {z1 : Int32} {z2 : Nat} {To : xT} {No : xT} {Zo : Nat} {So : Nat} {Io : xI} {Ro : xR} (hm190 : ∀ {T : xT} {N : xT} {Z : Nat} {S : Nat} {I : xI} {R : xR} {x0 : Nat} {x1 : Int32}, kk190 T N Z S I R x0 x1 = some (To, No, Zo, So, Io, Ro) → Z ≤ Zo ∧ S ≤ So) (hf : fX0_init_b217 nf kk190 (sv dA) T N Z S I R x0 x1 z0 z1 z2 = some (To, No, Zo, So, Io, Ro)) : Z ≤ Zo ∧ S ≤ So := by
  unfold fX0_init_b217 at hf
  replace hf := b5s hf; obtain ⟨T1, N2, Z3, S4, R5, hk_6, hf⟩ := hf
  have hm_hk_6 := zX2_init hk_6
  have hm := zX0_init_b221 hm190 hf
  exact ⟨by omega, by omega⟩
set_option maxHeartbeats 400000 in
set_option maxRecDepth 100000 in
theorem wX0_init_b217 {nf : Nat} {kc ks : Nat} {cells slots : Nat} {p : Program} {l : Launch} {e : Env} {s : State} {m : MethodId} {args : Array Value} {below : List Frame} {meth : Method} {c : Code} {D : va_G} {dA : Nat → ClassId} {s0 : Nat} {T : xT} {N : xT} {Z : Nat} {S : Nat} {I : xI} {L : xL} {R : xR} {H : Heap} {locs : List Loc} {ls : Array Slot} {kk190 : xT → xT → Nat → Nat → xI → xR → Nat → Int32 → Option (xT × xT × Nat × Nat × xI × xR)} {x0 : Nat} {x1 : Int32} {z0 : Nat} {z1 : Int32} {z2 : Nat} {To : xT} {No : xT} {Zo : Nat} {So : Nat} {Io : xI} {Ro : xR} (X : Cx D dA s0 p m c cX0_init 2 s args RX0 meth) (hr : meth.sig.returnType = none) (hini : meth.name = "<init>") (hk190 : ∀ {T : xT} {N : xT} {Z : Nat} {S : Nat} {I : xI} {R : xR} {x0 : Nat} {x1 : Int32} {H : Heap} {locs : List Loc} {ls : Array Slot} {cells slots : Nat} , kk190 T N Z S I R x0 x1 = some (To, No, Zo, So, Io, Ro) → Iv D dA s0 s T N Z I L R H locs → lv_has ls 2 [(0, .ref x0), (1, .int x1)] → cells + (Zo - Z) ≤ kc ∧ slots + (So - S) ≤ ks → W p l e { frames := 5, cells := kc, slots := ks, locals := 108 } s m args below meth c H locs cells slots (MQ below (xQ D dA s0 none To No Zo Io L Ro) args s kc ks (fun q => s0 ≤ q)) (F0 m 190 ls [])) (hm190 : ∀ {T : xT} {N : xT} {Z : Nat} {S : Nat} {I : xI} {R : xR} {x0 : Nat} {x1 : Int32}, kk190 T N Z S I R x0 x1 = some (To, No, Zo, So, Io, Ro) → Z ≤ Zo ∧ S ≤ So) (hf : fX0_init_b217 nf kk190 (sv dA) T N Z S I R x0 x1 z0 z1 z2 = some (To, No, Zo, So, Io, Ro)) (V : Iv D dA s0 s T N Z I L R H locs) (hl : lv_has ls 2 [(0, .ref x0), (1, .int x1)]) (hB : cells + (Zo - Z) ≤ kc ∧ slots + (So - S) ≤ ks) : W p l e { frames := 5, cells := kc, slots := ks, locals := 108 } s m args below meth c H locs cells slots (MQ below (xQ D dA s0 none To No Zo Io L Ro) args s kc ks (fun q => s0 ≤ q)) (F0 m 217 ls [.ref z2, .int z1, .ref z0]) := by
  have hx := X.1.1
  have hb := X.1.2.1
  unfold fX0_init_b217 at hf
  refine lv_dup (pc := 217) hx hb dX0_init_217 rfl ?_
  replace hf := b5s hf; obtain ⟨T1, N2, Z3, S4, R5, hk_6, hf⟩ := hf
  have hm_hk_6 := zX2_init hk_6
  have hm := zX0_init_b221 hm190 hf
  refine x_callIN (pc := 218) (As := []) (rest := [.ref z2, .int z1, .ref z0]) X V (mX2_init l D dA s0 (kc := Z3 - Z) (ks := S4 - S) (Nat.le_refl _) (Nat.le_refl _) hk_6) q281 q172 q121 q173 rfl hsX2_init ⟨Nat.le_of_ble_eq_true rfl, Nat.le_of_ble_eq_true rfl⟩ rfl hl.1 rfl (Nat.le_of_ble_eq_true rfl) dX0_init_218 ⟨by show _ ≤ kc; omega, by show _ ≤ ks; omega⟩ (fun H locs V => W.eq (g2 := F0 m 221 ls [.ref z2, .int z1, .ref z0]) rfl ?_)
  exact wX0_init_b221 X hr hini hk190 hm190 hf V (lv_sub hl [0, 1] rfl) ⟨by omega, by omega⟩
set_option maxHeartbeats 400000 in
set_option maxRecDepth 100000 in
theorem zX0_init_b208 {nf : Nat} {dA : Nat → ClassId} {T : xT} {N : xT} {Z : Nat} {S : Nat} {I : xI} {R : xR} {kk190 : xT → xT → Nat → Nat → xI → xR → Nat → Int32 → Option (xT × xT × Nat × Nat × xI × xR)} {x0 : Nat} {x1 : Int32} {z0 : Nat} {z1 : Int32} {z2 : Nat} {To : xT} {No : xT} {Zo : Nat} {So : Nat} {Io : xI} {Ro : xR} (hm190 : ∀ {T : xT} {N : xT} {Z : Nat} {S : Nat} {I : xI} {R : xR} {x0 : Nat} {x1 : Int32}, kk190 T N Z S I R x0 x1 = some (To, No, Zo, So, Io, Ro) → Z ≤ Zo ∧ S ≤ So) (hf : fX0_init_b208 nf kk190 (sv dA) T N Z S I R x0 x1 z0 z1 z2 = some (To, No, Zo, So, Io, Ro)) : Z ≤ Zo ∧ S ≤ So := by
  unfold fX0_init_b208 at hf
  replace hf := rA_s hf; obtain ⟨j1, hjj1, htj1, hij1, hf⟩ := hf
  replace hf := tg_s hf; obtain ⟨ht2, hf⟩ := hf
  replace hf := nm_s hf; obtain ⟨R3, hR3, hf⟩ := hf
  replace hf := tg_s hf; obtain ⟨ht4, hf⟩ := hf
  replace hf := bs hf; obtain ⟨a5, ha5, hf⟩ := hf
  replace hf := nm_s hf; obtain ⟨T6, hT6, hf⟩ := hf
  replace hf := nm_s hf; obtain ⟨Z7, hZ7, hf⟩ := hf
  replace hf := nm_s hf; obtain ⟨S8, hS8, hf⟩ := hf
  have hm := zX0_init_b217 hm190 hf
  exact ⟨by omega, by omega⟩
set_option maxHeartbeats 400000 in
set_option maxRecDepth 100000 in
theorem wX0_init_b208 {nf : Nat} {kc ks : Nat} {cells slots : Nat} {p : Program} {l : Launch} {e : Env} {s : State} {m : MethodId} {args : Array Value} {below : List Frame} {meth : Method} {c : Code} {D : va_G} {dA : Nat → ClassId} {s0 : Nat} {T : xT} {N : xT} {Z : Nat} {S : Nat} {I : xI} {L : xL} {R : xR} {H : Heap} {locs : List Loc} {ls : Array Slot} {kk190 : xT → xT → Nat → Nat → xI → xR → Nat → Int32 → Option (xT × xT × Nat × Nat × xI × xR)} {x0 : Nat} {x1 : Int32} {z0 : Nat} {z1 : Int32} {z2 : Nat} {To : xT} {No : xT} {Zo : Nat} {So : Nat} {Io : xI} {Ro : xR} (X : Cx D dA s0 p m c cX0_init 2 s args RX0 meth) (hr : meth.sig.returnType = none) (hini : meth.name = "<init>") (hk190 : ∀ {T : xT} {N : xT} {Z : Nat} {S : Nat} {I : xI} {R : xR} {x0 : Nat} {x1 : Int32} {H : Heap} {locs : List Loc} {ls : Array Slot} {cells slots : Nat} , kk190 T N Z S I R x0 x1 = some (To, No, Zo, So, Io, Ro) → Iv D dA s0 s T N Z I L R H locs → lv_has ls 2 [(0, .ref x0), (1, .int x1)] → cells + (Zo - Z) ≤ kc ∧ slots + (So - S) ≤ ks → W p l e { frames := 5, cells := kc, slots := ks, locals := 108 } s m args below meth c H locs cells slots (MQ below (xQ D dA s0 none To No Zo Io L Ro) args s kc ks (fun q => s0 ≤ q)) (F0 m 190 ls [])) (hm190 : ∀ {T : xT} {N : xT} {Z : Nat} {S : Nat} {I : xI} {R : xR} {x0 : Nat} {x1 : Int32}, kk190 T N Z S I R x0 x1 = some (To, No, Zo, So, Io, Ro) → Z ≤ Zo ∧ S ≤ So) (hf : fX0_init_b208 nf kk190 (sv dA) T N Z S I R x0 x1 z0 z1 z2 = some (To, No, Zo, So, Io, Ro)) (V : Iv D dA s0 s T N Z I L R H locs) (hl : lv_has ls 2 [(0, .ref x0), (1, .int x1)]) (hB : cells + (Zo - Z) ≤ kc ∧ slots + (So - S) ≤ ks) : W p l e { frames := 5, cells := kc, slots := ks, locals := 108 } s m args below meth c H locs cells slots (MQ below (xQ D dA s0 none To No Zo Io L Ro) args s kc ks (fun q => s0 ≤ q)) (F0 m 208 ls [.ref z2, .int z1, .ref z0]) := by
  have hx := X.1.1
  have hb := X.1.2.1
  unfold fX0_init_b208 at hf
  replace hf := rA_s hf; obtain ⟨j1, hjj1, htj1, hij1, hf⟩ := hf
  replace hf := tg_s hf; obtain ⟨ht2, hf⟩ := hf
  replace hf := nm_s hf; obtain ⟨R3, hR3, hf⟩ := hf
  refine x_aast (pc := 208) X V (k := 6) rfl (by decide) htj1 hij1 hjj1 okX2 ht2 (Or.inl rfl) hR3 dX0_init_208 (fun H locs V => ?_)
  refine lv_aload_n (pc := 209) hx hb dX0_init_209 rfl (lv_at hl 0 rfl) ?_
  replace hf := tg_s hf; obtain ⟨ht4, hf⟩ := hf
  replace hf := bs hf; obtain ⟨a5, ha5, hf⟩ := hf
  refine x_get (pc := 210) X V okX0 ht4 5 (by decide) q365 (v := va_rf (R3 x0 5)) rfl dX0_init_210 ?_
  refine x_topr ha5 ?_
  refine lv_iload_n (pc := 213) hx hb dX0_init_213 rfl (lv_at hl 1 rfl) ?_
  replace hf := nm_s hf; obtain ⟨T6, hT6, hf⟩ := hf
  replace hf := nm_s hf; obtain ⟨Z7, hZ7, hf⟩ := hf
  replace hf := nm_s hf; obtain ⟨S8, hS8, hf⟩ := hf
  have hm := zX0_init_b217 hm190 hf
  refine x_new (pc := 214) X V okX2 hT6 hZ7 q279 q170 q121 (by show _ ≤ kc; omega) (by show _ ≤ ks; omega) dX0_init_214 (fun H V => ?_)
  exact wX0_init_b217 X hr hini hk190 hm190 hf V (lv_sub hl [0, 1] rfl) ⟨by omega, by omega⟩
set_option maxHeartbeats 400000 in
set_option maxRecDepth 100000 in
theorem zX0_init_b204 {nf : Nat} {dA : Nat → ClassId} {T : xT} {N : xT} {Z : Nat} {S : Nat} {I : xI} {R : xR} {kk190 : xT → xT → Nat → Nat → xI → xR → Nat → Int32 → Option (xT × xT × Nat × Nat × xI × xR)} {x0 : Nat} {x1 : Int32} {z0 : Nat} {z1 : Int32} {z2 : Nat} {To : xT} {No : xT} {Zo : Nat} {So : Nat} {Io : xI} {Ro : xR} (hm190 : ∀ {T : xT} {N : xT} {Z : Nat} {S : Nat} {I : xI} {R : xR} {x0 : Nat} {x1 : Int32}, kk190 T N Z S I R x0 x1 = some (To, No, Zo, So, Io, Ro) → Z ≤ Zo ∧ S ≤ So) (hf : fX0_init_b204 nf kk190 (sv dA) T N Z S I R x0 x1 z0 z1 z2 = some (To, No, Zo, So, Io, Ro)) : Z ≤ Zo ∧ S ≤ So := by
  unfold fX0_init_b204 at hf
  replace hf := b5s hf; obtain ⟨T1, N2, Z3, S4, R5, hk_6, hf⟩ := hf
  have hm_hk_6 := zX2_init hk_6
  have hm := zX0_init_b208 hm190 hf
  exact ⟨by omega, by omega⟩
set_option maxHeartbeats 400000 in
set_option maxRecDepth 100000 in
theorem wX0_init_b204 {nf : Nat} {kc ks : Nat} {cells slots : Nat} {p : Program} {l : Launch} {e : Env} {s : State} {m : MethodId} {args : Array Value} {below : List Frame} {meth : Method} {c : Code} {D : va_G} {dA : Nat → ClassId} {s0 : Nat} {T : xT} {N : xT} {Z : Nat} {S : Nat} {I : xI} {L : xL} {R : xR} {H : Heap} {locs : List Loc} {ls : Array Slot} {kk190 : xT → xT → Nat → Nat → xI → xR → Nat → Int32 → Option (xT × xT × Nat × Nat × xI × xR)} {x0 : Nat} {x1 : Int32} {z0 : Nat} {z1 : Int32} {z2 : Nat} {To : xT} {No : xT} {Zo : Nat} {So : Nat} {Io : xI} {Ro : xR} (X : Cx D dA s0 p m c cX0_init 2 s args RX0 meth) (hr : meth.sig.returnType = none) (hini : meth.name = "<init>") (hk190 : ∀ {T : xT} {N : xT} {Z : Nat} {S : Nat} {I : xI} {R : xR} {x0 : Nat} {x1 : Int32} {H : Heap} {locs : List Loc} {ls : Array Slot} {cells slots : Nat} , kk190 T N Z S I R x0 x1 = some (To, No, Zo, So, Io, Ro) → Iv D dA s0 s T N Z I L R H locs → lv_has ls 2 [(0, .ref x0), (1, .int x1)] → cells + (Zo - Z) ≤ kc ∧ slots + (So - S) ≤ ks → W p l e { frames := 5, cells := kc, slots := ks, locals := 108 } s m args below meth c H locs cells slots (MQ below (xQ D dA s0 none To No Zo Io L Ro) args s kc ks (fun q => s0 ≤ q)) (F0 m 190 ls [])) (hm190 : ∀ {T : xT} {N : xT} {Z : Nat} {S : Nat} {I : xI} {R : xR} {x0 : Nat} {x1 : Int32}, kk190 T N Z S I R x0 x1 = some (To, No, Zo, So, Io, Ro) → Z ≤ Zo ∧ S ≤ So) (hf : fX0_init_b204 nf kk190 (sv dA) T N Z S I R x0 x1 z0 z1 z2 = some (To, No, Zo, So, Io, Ro)) (V : Iv D dA s0 s T N Z I L R H locs) (hl : lv_has ls 2 [(0, .ref x0), (1, .int x1)]) (hB : cells + (Zo - Z) ≤ kc ∧ slots + (So - S) ≤ ks) : W p l e { frames := 5, cells := kc, slots := ks, locals := 108 } s m args below meth c H locs cells slots (MQ below (xQ D dA s0 none To No Zo Io L Ro) args s kc ks (fun q => s0 ≤ q)) (F0 m 204 ls [.ref z2, .int z1, .ref z0]) := by
  have hx := X.1.1
  have hb := X.1.2.1
  unfold fX0_init_b204 at hf
  refine lv_dup (pc := 204) hx hb dX0_init_204 rfl ?_
  replace hf := b5s hf; obtain ⟨T1, N2, Z3, S4, R5, hk_6, hf⟩ := hf
  have hm_hk_6 := zX2_init hk_6
  have hm := zX0_init_b208 hm190 hf
  refine x_callIN (pc := 205) (As := []) (rest := [.ref z2, .int z1, .ref z0]) X V (mX2_init l D dA s0 (kc := Z3 - Z) (ks := S4 - S) (Nat.le_refl _) (Nat.le_refl _) hk_6) q281 q172 q121 q173 rfl hsX2_init ⟨Nat.le_of_ble_eq_true rfl, Nat.le_of_ble_eq_true rfl⟩ rfl hl.1 rfl (Nat.le_of_ble_eq_true rfl) dX0_init_205 ⟨by show _ ≤ kc; omega, by show _ ≤ ks; omega⟩ (fun H locs V => W.eq (g2 := F0 m 208 ls [.ref z2, .int z1, .ref z0]) rfl ?_)
  exact wX0_init_b208 X hr hini hk190 hm190 hf V (lv_sub hl [0, 1] rfl) ⟨by omega, by omega⟩
set_option maxHeartbeats 400000 in
set_option maxRecDepth 100000 in
theorem zX0_init_b190 {nf : Nat} {dA : Nat → ClassId}   {To : xT} {No : xT} {Zo : Nat} {So : Nat} {Io : xI} {Ro : xR}  (k : Nat) : ∀ {T : xT} {N : xT} {Z : Nat} {S : Nat} {I : xI} {R : xR} {x0 : Nat} {x1 : Int32}, fX0_init_b190 nf (sv dA) k T N Z S I R x0 x1 = some (To, No, Zo, So, Io, Ro) → Z ≤ Zo ∧ S ≤ So := by
  induction k with
  | zero =>
    intro T N Z S I R x0 x1 hf
    exact absurd (show none = some _ from hf) (fun q => nomatch q)
  | succ k ih =>
    intro T N Z S I R x0 x1 hf
    rw [fX0_init_b190] at hf
    rcases (Decidable.em ((ii 16) ≤ x1)) with c1 | c1
    · replace hf := if_t hf c1
      cases hf
      exact ⟨Nat.le_refl _, Nat.le_refl _⟩
    · replace hf := if_f hf c1
      replace hf := tg_s hf; obtain ⟨ht2, hf⟩ := hf
      replace hf := bs hf; obtain ⟨a3, ha3, hf⟩ := hf
      replace hf := nm_s hf; obtain ⟨T4, hT4, hf⟩ := hf
      replace hf := nm_s hf; obtain ⟨Z5, hZ5, hf⟩ := hf
      replace hf := nm_s hf; obtain ⟨S6, hS6, hf⟩ := hf
      have hm := zX0_init_b204 ih hf
      exact ⟨by omega, by omega⟩
set_option maxHeartbeats 400000 in
set_option maxRecDepth 100000 in
theorem wX0_init_b190 {nf : Nat} {kc ks : Nat} {p : Program} {l : Launch} {e : Env} {s : State} {m : MethodId} {args : Array Value} {below : List Frame} {meth : Method} {c : Code} {D : va_G} {dA : Nat → ClassId} {s0 : Nat} {L : xL}  {To : xT} {No : xT} {Zo : Nat} {So : Nat} {Io : xI} {Ro : xR} (X : Cx D dA s0 p m c cX0_init 2 s args RX0 meth) (hr : meth.sig.returnType = none) (hini : meth.name = "<init>")   (k : Nat) : ∀ {T : xT} {N : xT} {Z : Nat} {S : Nat} {I : xI} {R : xR} {x0 : Nat} {x1 : Int32} {H : Heap} {locs : List Loc} {ls : Array Slot} {cells slots : Nat} , fX0_init_b190 nf (sv dA) k T N Z S I R x0 x1 = some (To, No, Zo, So, Io, Ro) → Iv D dA s0 s T N Z I L R H locs → lv_has ls 2 [(0, .ref x0), (1, .int x1)] → cells + (Zo - Z) ≤ kc ∧ slots + (So - S) ≤ ks → W p l e { frames := 5, cells := kc, slots := ks, locals := 108 } s m args below meth c H locs cells slots (MQ below (xQ D dA s0 none To No Zo Io L Ro) args s kc ks (fun q => s0 ≤ q)) (F0 m 190 ls []) := by
  have hx := X.1.1
  have hb := X.1.2.1
  induction k with
  | zero =>
    intro T N Z S I R x0 x1 H locs ls cells slots hf V hl hB
    exact absurd (show none = some _ from hf) (fun q => nomatch q)
  | succ k ih =>
    intro T N Z S I R x0 x1 H locs ls cells slots hf V hl hB
    have ihm : ∀ {T : xT} {N : xT} {Z : Nat} {S : Nat} {I : xI} {R : xR} {x0 : Nat} {x1 : Int32}, fX0_init_b190 nf (sv dA) k T N Z S I R x0 x1 = some (To, No, Zo, So, Io, Ro) → Z ≤ Zo ∧ S ≤ So := zX0_init_b190 k
    rw [fX0_init_b190] at hf
    refine lv_iload_n (pc := 190) hx hb dX0_init_190 rfl (lv_at hl 1 rfl) ?_
    refine lv_bipush (pc := 191) (v := (ii 16)) hx hb dX0_init_191 (by decide) ?_
    refine lv_icmp_ge (pc := 193) (tgt := 228) hx hb dX0_init_193 (by decide) (fun c1 => ?_) (fun c1 => ?_)
    · replace hf := if_t hf c1
      cases hf
      exact x_vretW (pc := 228) X V hr (by omega) (by omega) dX0_init_228
    · replace hf := if_f hf c1
      refine lv_aload_n (pc := 196) hx hb dX0_init_196 rfl (lv_at hl 0 rfl) ?_
      replace hf := tg_s hf; obtain ⟨ht2, hf⟩ := hf
      replace hf := bs hf; obtain ⟨a3, ha3, hf⟩ := hf
      refine x_get (pc := 197) X V okX0 ht2 4 (by decide) q364 (v := va_rf (R x0 4)) rfl dX0_init_197 ?_
      refine x_topr ha3 ?_
      refine lv_iload_n (pc := 200) hx hb dX0_init_200 rfl (lv_at hl 1 rfl) ?_
      replace hf := nm_s hf; obtain ⟨T4, hT4, hf⟩ := hf
      replace hf := nm_s hf; obtain ⟨Z5, hZ5, hf⟩ := hf
      replace hf := nm_s hf; obtain ⟨S6, hS6, hf⟩ := hf
      have hm := zX0_init_b204 ihm hf
      refine x_new (pc := 201) X V okX2 hT4 hZ5 q279 q170 q121 (by show _ ≤ kc; omega) (by show _ ≤ ks; omega) dX0_init_201 (fun H V => ?_)
      exact wX0_init_b204 X hr hini ih ihm hf V (lv_sub hl [0, 1] rfl) ⟨by omega, by omega⟩
set_option maxHeartbeats 400000 in
set_option maxRecDepth 100000 in
theorem zX0_init_b180 {nf : Nat} {dA : Nat → ClassId} {T : xT} {N : xT} {Z : Nat} {S : Nat} {I : xI} {R : xR}  {x0 : Nat} {z0 : Nat} {z1 : Nat} {To : xT} {No : xT} {Zo : Nat} {So : Nat} {Io : xI} {Ro : xR}  (hf : fX0_init_b180 nf (sv dA) T N Z S I R x0 z0 z1 = some (To, No, Zo, So, Io, Ro)) : Z ≤ Zo ∧ S ≤ So := by
  unfold fX0_init_b180 at hf
  replace hf := tg_s hf; obtain ⟨ht1, hf⟩ := hf
  replace hf := nm_s hf; obtain ⟨R2, hR2, hf⟩ := hf
  replace hf := tg_s hf; obtain ⟨ht3, hf⟩ := hf
  replace hf := nm_s hf; obtain ⟨I4, hI4, hf⟩ := hf
  have hm := zX0_init_b190 nf hf
  exact ⟨by omega, by omega⟩
set_option maxHeartbeats 400000 in
set_option maxRecDepth 100000 in
theorem wX0_init_b180 {nf : Nat} {kc ks : Nat} {cells slots : Nat} {p : Program} {l : Launch} {e : Env} {s : State} {m : MethodId} {args : Array Value} {below : List Frame} {meth : Method} {c : Code} {D : va_G} {dA : Nat → ClassId} {s0 : Nat} {T : xT} {N : xT} {Z : Nat} {S : Nat} {I : xI} {L : xL} {R : xR} {H : Heap} {locs : List Loc} {ls : Array Slot}  {x0 : Nat} {z0 : Nat} {z1 : Nat} {To : xT} {No : xT} {Zo : Nat} {So : Nat} {Io : xI} {Ro : xR} (X : Cx D dA s0 p m c cX0_init 2 s args RX0 meth) (hr : meth.sig.returnType = none) (hini : meth.name = "<init>")   (hf : fX0_init_b180 nf (sv dA) T N Z S I R x0 z0 z1 = some (To, No, Zo, So, Io, Ro)) (V : Iv D dA s0 s T N Z I L R H locs) (hl : lv_has ls 2 [(0, .ref x0)]) (hB : cells + (Zo - Z) ≤ kc ∧ slots + (So - S) ≤ ks) : W p l e { frames := 5, cells := kc, slots := ks, locals := 108 } s m args below meth c H locs cells slots (MQ below (xQ D dA s0 none To No Zo Io L Ro) args s kc ks (fun q => s0 ≤ q)) (F0 m 180 ls [.ref z1, .ref z0]) := by
  have hx := X.1.1
  have hb := X.1.2.1
  unfold fX0_init_b180 at hf
  replace hf := tg_s hf; obtain ⟨ht1, hf⟩ := hf
  replace hf := nm_s hf; obtain ⟨R2, hR2, hf⟩ := hf
  refine x_putr (pc := 180) X V okX0 (by decide) ht1 24 (by decide) q384 (Or.inr ⟨rfl, hini, rfl⟩) hR2 (fun _ _ _ => rfl) (v := .ref z1) rfl rfl rfl dX0_init_180 (fun H locs V => ?_)
  refine lv_aload_n (pc := 183) hx hb dX0_init_183 rfl (lv_at hl 0 rfl) ?_
  refine lv_iconst (pc := 184) (v := (-1 : Int32)) hx hb dX0_init_184 (by decide) ?_
  replace hf := tg_s hf; obtain ⟨ht3, hf⟩ := hf
  replace hf := nm_s hf; obtain ⟨I4, hI4, hf⟩ := hf
  refine x_puti (pc := 185) X V okX0 (by decide) ht3 25 (by decide) q385 (Or.inl rfl) hI4 (fun _ _ _ => rfl) rfl rfl dX0_init_185 (fun H locs V => ?_)
  refine lv_iconst (pc := 188) (v := (ii 0)) hx hb dX0_init_188 (by decide) ?_
  refine lv_istore_n (pc := 189) (lv' := [(1, .int (ii 0)), (0, .ref x0)]) hx hb dX0_init_189 rfl hl (by decide) rfl (fun ls hl => ?_)
  exact wX0_init_b190 X hr hini nf hf V (lv_sub hl [1, 0] rfl) ⟨by omega, by omega⟩
set_option maxHeartbeats 400000 in
set_option maxRecDepth 100000 in
theorem zX0_init_b176 {nf : Nat} {dA : Nat → ClassId} {T : xT} {N : xT} {Z : Nat} {S : Nat} {I : xI} {R : xR}  {x0 : Nat} {z0 : Nat} {z1 : Nat} {To : xT} {No : xT} {Zo : Nat} {So : Nat} {Io : xI} {Ro : xR}  (hf : fX0_init_b176 nf (sv dA) T N Z S I R x0 z0 z1 = some (To, No, Zo, So, Io, Ro)) : Z ≤ Zo ∧ S ≤ So := by
  unfold fX0_init_b176 at hf
  replace hf := b5s hf; obtain ⟨T1, N2, Z3, S4, R5, hk_6, hf⟩ := hf
  have hm_hk_6 := zX2_init hk_6
  have hm := zX0_init_b180 hf
  exact ⟨by omega, by omega⟩
set_option maxHeartbeats 400000 in
set_option maxRecDepth 100000 in
theorem wX0_init_b176 {nf : Nat} {kc ks : Nat} {cells slots : Nat} {p : Program} {l : Launch} {e : Env} {s : State} {m : MethodId} {args : Array Value} {below : List Frame} {meth : Method} {c : Code} {D : va_G} {dA : Nat → ClassId} {s0 : Nat} {T : xT} {N : xT} {Z : Nat} {S : Nat} {I : xI} {L : xL} {R : xR} {H : Heap} {locs : List Loc} {ls : Array Slot}  {x0 : Nat} {z0 : Nat} {z1 : Nat} {To : xT} {No : xT} {Zo : Nat} {So : Nat} {Io : xI} {Ro : xR} (X : Cx D dA s0 p m c cX0_init 2 s args RX0 meth) (hr : meth.sig.returnType = none) (hini : meth.name = "<init>")   (hf : fX0_init_b176 nf (sv dA) T N Z S I R x0 z0 z1 = some (To, No, Zo, So, Io, Ro)) (V : Iv D dA s0 s T N Z I L R H locs) (hl : lv_has ls 2 [(0, .ref x0)]) (hB : cells + (Zo - Z) ≤ kc ∧ slots + (So - S) ≤ ks) : W p l e { frames := 5, cells := kc, slots := ks, locals := 108 } s m args below meth c H locs cells slots (MQ below (xQ D dA s0 none To No Zo Io L Ro) args s kc ks (fun q => s0 ≤ q)) (F0 m 176 ls [.ref z1, .ref z0]) := by
  have hx := X.1.1
  have hb := X.1.2.1
  unfold fX0_init_b176 at hf
  refine lv_dup (pc := 176) hx hb dX0_init_176 rfl ?_
  replace hf := b5s hf; obtain ⟨T1, N2, Z3, S4, R5, hk_6, hf⟩ := hf
  have hm_hk_6 := zX2_init hk_6
  have hm := zX0_init_b180 hf
  refine x_callIN (pc := 177) (As := []) (rest := [.ref z1, .ref z0]) X V (mX2_init l D dA s0 (kc := Z3 - Z) (ks := S4 - S) (Nat.le_refl _) (Nat.le_refl _) hk_6) q281 q172 q121 q173 rfl hsX2_init ⟨Nat.le_of_ble_eq_true rfl, Nat.le_of_ble_eq_true rfl⟩ rfl hl.1 rfl (Nat.le_of_ble_eq_true rfl) dX0_init_177 ⟨by show _ ≤ kc; omega, by show _ ≤ ks; omega⟩ (fun H locs V => W.eq (g2 := F0 m 180 ls [.ref z1, .ref z0]) rfl ?_)
  exact wX0_init_b180 X hr hini hf V (lv_sub hl [0] rfl) ⟨by omega, by omega⟩
set_option maxHeartbeats 400000 in
set_option maxRecDepth 100000 in
theorem zX0_init_b169 {nf : Nat} {dA : Nat → ClassId} {T : xT} {N : xT} {Z : Nat} {S : Nat} {I : xI} {R : xR}  {x0 : Nat} {z0 : Nat} {z1 : Nat} {To : xT} {No : xT} {Zo : Nat} {So : Nat} {Io : xI} {Ro : xR}  (hf : fX0_init_b169 nf (sv dA) T N Z S I R x0 z0 z1 = some (To, No, Zo, So, Io, Ro)) : Z ≤ Zo ∧ S ≤ So := by
  unfold fX0_init_b169 at hf
  replace hf := tg_s hf; obtain ⟨ht1, hf⟩ := hf
  replace hf := nm_s hf; obtain ⟨R2, hR2, hf⟩ := hf
  replace hf := nm_s hf; obtain ⟨T3, hT3, hf⟩ := hf
  replace hf := nm_s hf; obtain ⟨Z4, hZ4, hf⟩ := hf
  replace hf := nm_s hf; obtain ⟨S5, hS5, hf⟩ := hf
  have hm := zX0_init_b176 hf
  exact ⟨by omega, by omega⟩
set_option maxHeartbeats 400000 in
set_option maxRecDepth 100000 in
theorem wX0_init_b169 {nf : Nat} {kc ks : Nat} {cells slots : Nat} {p : Program} {l : Launch} {e : Env} {s : State} {m : MethodId} {args : Array Value} {below : List Frame} {meth : Method} {c : Code} {D : va_G} {dA : Nat → ClassId} {s0 : Nat} {T : xT} {N : xT} {Z : Nat} {S : Nat} {I : xI} {L : xL} {R : xR} {H : Heap} {locs : List Loc} {ls : Array Slot}  {x0 : Nat} {z0 : Nat} {z1 : Nat} {To : xT} {No : xT} {Zo : Nat} {So : Nat} {Io : xI} {Ro : xR} (X : Cx D dA s0 p m c cX0_init 2 s args RX0 meth) (hr : meth.sig.returnType = none) (hini : meth.name = "<init>")   (hf : fX0_init_b169 nf (sv dA) T N Z S I R x0 z0 z1 = some (To, No, Zo, So, Io, Ro)) (V : Iv D dA s0 s T N Z I L R H locs) (hl : lv_has ls 2 [(0, .ref x0)]) (hB : cells + (Zo - Z) ≤ kc ∧ slots + (So - S) ≤ ks) : W p l e { frames := 5, cells := kc, slots := ks, locals := 108 } s m args below meth c H locs cells slots (MQ below (xQ D dA s0 none To No Zo Io L Ro) args s kc ks (fun q => s0 ≤ q)) (F0 m 169 ls [.ref z1, .ref z0]) := by
  have hx := X.1.1
  have hb := X.1.2.1
  unfold fX0_init_b169 at hf
  replace hf := tg_s hf; obtain ⟨ht1, hf⟩ := hf
  replace hf := nm_s hf; obtain ⟨R2, hR2, hf⟩ := hf
  refine x_putr (pc := 169) X V okX0 (by decide) ht1 23 (by decide) q383 (Or.inr ⟨rfl, hini, rfl⟩) hR2 (fun _ _ _ => rfl) (v := .ref z1) rfl rfl rfl dX0_init_169 (fun H locs V => ?_)
  refine lv_aload_n (pc := 172) hx hb dX0_init_172 rfl (lv_at hl 0 rfl) ?_
  replace hf := nm_s hf; obtain ⟨T3, hT3, hf⟩ := hf
  replace hf := nm_s hf; obtain ⟨Z4, hZ4, hf⟩ := hf
  replace hf := nm_s hf; obtain ⟨S5, hS5, hf⟩ := hf
  have hm := zX0_init_b176 hf
  refine x_new (pc := 173) X V okX2 hT3 hZ4 q279 q170 q121 (by show _ ≤ kc; omega) (by show _ ≤ ks; omega) dX0_init_173 (fun H V => ?_)
  exact wX0_init_b176 X hr hini hf V (lv_sub hl [0] rfl) ⟨by omega, by omega⟩
set_option maxHeartbeats 400000 in
set_option maxRecDepth 100000 in
theorem zX0_init_b161 {nf : Nat} {dA : Nat → ClassId} {T : xT} {N : xT} {Z : Nat} {S : Nat} {I : xI} {R : xR}  {x0 : Nat} {z0 : Nat} {z1 : Nat} {To : xT} {No : xT} {Zo : Nat} {So : Nat} {Io : xI} {Ro : xR}  (hf : fX0_init_b161 nf (sv dA) T N Z S I R x0 z0 z1 = some (To, No, Zo, So, Io, Ro)) : Z ≤ Zo ∧ S ≤ So := by
  unfold fX0_init_b161 at hf
  replace hf := tg_s hf; obtain ⟨ht1, hf⟩ := hf
  replace hf := nm_s hf; obtain ⟨R2, hR2, hf⟩ := hf
  replace hf := nm_s hf; obtain ⟨T3, hT3, hf⟩ := hf
  replace hf := nm_s hf; obtain ⟨N4, hN4, hf⟩ := hf
  replace hf := nm_s hf; obtain ⟨Z5, hZ5, hf⟩ := hf
  replace hf := nm_s hf; obtain ⟨S6, hS6, hf⟩ := hf
  have hm := zX0_init_b169 hf
  exact ⟨by omega, by omega⟩
set_option maxHeartbeats 400000 in
set_option maxRecDepth 100000 in
theorem wX0_init_b161 {nf : Nat} {kc ks : Nat} {cells slots : Nat} {p : Program} {l : Launch} {e : Env} {s : State} {m : MethodId} {args : Array Value} {below : List Frame} {meth : Method} {c : Code} {D : va_G} {dA : Nat → ClassId} {s0 : Nat} {T : xT} {N : xT} {Z : Nat} {S : Nat} {I : xI} {L : xL} {R : xR} {H : Heap} {locs : List Loc} {ls : Array Slot}  {x0 : Nat} {z0 : Nat} {z1 : Nat} {To : xT} {No : xT} {Zo : Nat} {So : Nat} {Io : xI} {Ro : xR} (X : Cx D dA s0 p m c cX0_init 2 s args RX0 meth) (hr : meth.sig.returnType = none) (hini : meth.name = "<init>")   (hf : fX0_init_b161 nf (sv dA) T N Z S I R x0 z0 z1 = some (To, No, Zo, So, Io, Ro)) (V : Iv D dA s0 s T N Z I L R H locs) (hl : lv_has ls 2 [(0, .ref x0)]) (hB : cells + (Zo - Z) ≤ kc ∧ slots + (So - S) ≤ ks) : W p l e { frames := 5, cells := kc, slots := ks, locals := 108 } s m args below meth c H locs cells slots (MQ below (xQ D dA s0 none To No Zo Io L Ro) args s kc ks (fun q => s0 ≤ q)) (F0 m 161 ls [.ref z1, .ref z0]) := by
  have hx := X.1.1
  have hb := X.1.2.1
  unfold fX0_init_b161 at hf
  replace hf := tg_s hf; obtain ⟨ht1, hf⟩ := hf
  replace hf := nm_s hf; obtain ⟨R2, hR2, hf⟩ := hf
  refine x_putr (pc := 161) X V okX0 (by decide) ht1 22 (by decide) q382 (Or.inr ⟨rfl, hini, rfl⟩) hR2 (fun _ _ _ => rfl) (v := .ref z1) rfl rfl rfl dX0_init_161 (fun H locs V => ?_)
  refine lv_aload_n (pc := 164) hx hb dX0_init_164 rfl (lv_at hl 0 rfl) ?_
  refine lv_bipush (pc := 165) (v := (ii 21)) hx hb dX0_init_165 (by decide) ?_
  replace hf := nm_s hf; obtain ⟨T3, hT3, hf⟩ := hf
  replace hf := nm_s hf; obtain ⟨N4, hN4, hf⟩ := hf
  replace hf := nm_s hf; obtain ⟨Z5, hZ5, hf⟩ := hf
  replace hf := nm_s hf; obtain ⟨S6, hS6, hf⟩ := hf
  have hm := zX0_init_b169 hf
  refine x_newa (pc := 167) X V (atype := .long) (k := 3) rfl (by decide) q359 (by decide) hT3 hN4 hZ5 (by show _ ≤ kc; omega) (by show _ ≤ ks; omega) dX0_init_167 (fun H V => ?_)
  exact wX0_init_b169 X hr hini hf V (lv_sub hl [0] rfl) ⟨by omega, by omega⟩
set_option maxHeartbeats 400000 in
set_option maxRecDepth 100000 in
theorem zX0_init_b153 {nf : Nat} {dA : Nat → ClassId} {T : xT} {N : xT} {Z : Nat} {S : Nat} {I : xI} {R : xR}  {x0 : Nat} {z0 : Nat} {z1 : Nat} {To : xT} {No : xT} {Zo : Nat} {So : Nat} {Io : xI} {Ro : xR}  (hf : fX0_init_b153 nf (sv dA) T N Z S I R x0 z0 z1 = some (To, No, Zo, So, Io, Ro)) : Z ≤ Zo ∧ S ≤ So := by
  unfold fX0_init_b153 at hf
  replace hf := tg_s hf; obtain ⟨ht1, hf⟩ := hf
  replace hf := nm_s hf; obtain ⟨R2, hR2, hf⟩ := hf
  replace hf := nm_s hf; obtain ⟨T3, hT3, hf⟩ := hf
  replace hf := nm_s hf; obtain ⟨N4, hN4, hf⟩ := hf
  replace hf := nm_s hf; obtain ⟨Z5, hZ5, hf⟩ := hf
  replace hf := nm_s hf; obtain ⟨S6, hS6, hf⟩ := hf
  have hm := zX0_init_b161 hf
  exact ⟨by omega, by omega⟩
set_option maxHeartbeats 400000 in
set_option maxRecDepth 100000 in
theorem wX0_init_b153 {nf : Nat} {kc ks : Nat} {cells slots : Nat} {p : Program} {l : Launch} {e : Env} {s : State} {m : MethodId} {args : Array Value} {below : List Frame} {meth : Method} {c : Code} {D : va_G} {dA : Nat → ClassId} {s0 : Nat} {T : xT} {N : xT} {Z : Nat} {S : Nat} {I : xI} {L : xL} {R : xR} {H : Heap} {locs : List Loc} {ls : Array Slot}  {x0 : Nat} {z0 : Nat} {z1 : Nat} {To : xT} {No : xT} {Zo : Nat} {So : Nat} {Io : xI} {Ro : xR} (X : Cx D dA s0 p m c cX0_init 2 s args RX0 meth) (hr : meth.sig.returnType = none) (hini : meth.name = "<init>")   (hf : fX0_init_b153 nf (sv dA) T N Z S I R x0 z0 z1 = some (To, No, Zo, So, Io, Ro)) (V : Iv D dA s0 s T N Z I L R H locs) (hl : lv_has ls 2 [(0, .ref x0)]) (hB : cells + (Zo - Z) ≤ kc ∧ slots + (So - S) ≤ ks) : W p l e { frames := 5, cells := kc, slots := ks, locals := 108 } s m args below meth c H locs cells slots (MQ below (xQ D dA s0 none To No Zo Io L Ro) args s kc ks (fun q => s0 ≤ q)) (F0 m 153 ls [.ref z1, .ref z0]) := by
  have hx := X.1.1
  have hb := X.1.2.1
  unfold fX0_init_b153 at hf
  replace hf := tg_s hf; obtain ⟨ht1, hf⟩ := hf
  replace hf := nm_s hf; obtain ⟨R2, hR2, hf⟩ := hf
  refine x_putr (pc := 153) X V okX0 (by decide) ht1 21 (by decide) q381 (Or.inr ⟨rfl, hini, rfl⟩) hR2 (fun _ _ _ => rfl) (v := .ref z1) rfl rfl rfl dX0_init_153 (fun H locs V => ?_)
  refine lv_aload_n (pc := 156) hx hb dX0_init_156 rfl (lv_at hl 0 rfl) ?_
  refine lv_bipush (pc := 157) (v := (ii 10)) hx hb dX0_init_157 (by decide) ?_
  replace hf := nm_s hf; obtain ⟨T3, hT3, hf⟩ := hf
  replace hf := nm_s hf; obtain ⟨N4, hN4, hf⟩ := hf
  replace hf := nm_s hf; obtain ⟨Z5, hZ5, hf⟩ := hf
  replace hf := nm_s hf; obtain ⟨S6, hS6, hf⟩ := hf
  have hm := zX0_init_b161 hf
  refine x_newa (pc := 159) X V (atype := .int) (k := 0) rfl (by decide) q192 (by decide) hT3 hN4 hZ5 (by show _ ≤ kc; omega) (by show _ ≤ ks; omega) dX0_init_159 (fun H V => ?_)
  exact wX0_init_b161 X hr hini hf V (lv_sub hl [0] rfl) ⟨by omega, by omega⟩
set_option maxHeartbeats 400000 in
set_option maxRecDepth 100000 in
theorem zX0_init_b145 {nf : Nat} {dA : Nat → ClassId} {T : xT} {N : xT} {Z : Nat} {S : Nat} {I : xI} {R : xR}  {x0 : Nat} {z0 : Nat} {z1 : Nat} {To : xT} {No : xT} {Zo : Nat} {So : Nat} {Io : xI} {Ro : xR}  (hf : fX0_init_b145 nf (sv dA) T N Z S I R x0 z0 z1 = some (To, No, Zo, So, Io, Ro)) : Z ≤ Zo ∧ S ≤ So := by
  unfold fX0_init_b145 at hf
  replace hf := tg_s hf; obtain ⟨ht1, hf⟩ := hf
  replace hf := nm_s hf; obtain ⟨R2, hR2, hf⟩ := hf
  replace hf := nm_s hf; obtain ⟨T3, hT3, hf⟩ := hf
  replace hf := nm_s hf; obtain ⟨N4, hN4, hf⟩ := hf
  replace hf := nm_s hf; obtain ⟨Z5, hZ5, hf⟩ := hf
  replace hf := nm_s hf; obtain ⟨S6, hS6, hf⟩ := hf
  have hm := zX0_init_b153 hf
  exact ⟨by omega, by omega⟩
set_option maxHeartbeats 400000 in
set_option maxRecDepth 100000 in
theorem wX0_init_b145 {nf : Nat} {kc ks : Nat} {cells slots : Nat} {p : Program} {l : Launch} {e : Env} {s : State} {m : MethodId} {args : Array Value} {below : List Frame} {meth : Method} {c : Code} {D : va_G} {dA : Nat → ClassId} {s0 : Nat} {T : xT} {N : xT} {Z : Nat} {S : Nat} {I : xI} {L : xL} {R : xR} {H : Heap} {locs : List Loc} {ls : Array Slot}  {x0 : Nat} {z0 : Nat} {z1 : Nat} {To : xT} {No : xT} {Zo : Nat} {So : Nat} {Io : xI} {Ro : xR} (X : Cx D dA s0 p m c cX0_init 2 s args RX0 meth) (hr : meth.sig.returnType = none) (hini : meth.name = "<init>")   (hf : fX0_init_b145 nf (sv dA) T N Z S I R x0 z0 z1 = some (To, No, Zo, So, Io, Ro)) (V : Iv D dA s0 s T N Z I L R H locs) (hl : lv_has ls 2 [(0, .ref x0)]) (hB : cells + (Zo - Z) ≤ kc ∧ slots + (So - S) ≤ ks) : W p l e { frames := 5, cells := kc, slots := ks, locals := 108 } s m args below meth c H locs cells slots (MQ below (xQ D dA s0 none To No Zo Io L Ro) args s kc ks (fun q => s0 ≤ q)) (F0 m 145 ls [.ref z1, .ref z0]) := by
  have hx := X.1.1
  have hb := X.1.2.1
  unfold fX0_init_b145 at hf
  replace hf := tg_s hf; obtain ⟨ht1, hf⟩ := hf
  replace hf := nm_s hf; obtain ⟨R2, hR2, hf⟩ := hf
  refine x_putr (pc := 145) X V okX0 (by decide) ht1 20 (by decide) q380 (Or.inr ⟨rfl, hini, rfl⟩) hR2 (fun _ _ _ => rfl) (v := .ref z1) rfl rfl rfl dX0_init_145 (fun H locs V => ?_)
  refine lv_aload_n (pc := 148) hx hb dX0_init_148 rfl (lv_at hl 0 rfl) ?_
  refine lv_bipush (pc := 149) (v := (ii 8)) hx hb dX0_init_149 (by decide) ?_
  replace hf := nm_s hf; obtain ⟨T3, hT3, hf⟩ := hf
  replace hf := nm_s hf; obtain ⟨N4, hN4, hf⟩ := hf
  replace hf := nm_s hf; obtain ⟨Z5, hZ5, hf⟩ := hf
  replace hf := nm_s hf; obtain ⟨S6, hS6, hf⟩ := hf
  have hm := zX0_init_b153 hf
  refine x_newa (pc := 151) X V (atype := .int) (k := 0) rfl (by decide) q192 (by decide) hT3 hN4 hZ5 (by show _ ≤ kc; omega) (by show _ ≤ ks; omega) dX0_init_151 (fun H V => ?_)
  exact wX0_init_b153 X hr hini hf V (lv_sub hl [0] rfl) ⟨by omega, by omega⟩
set_option maxHeartbeats 400000 in
set_option maxRecDepth 100000 in
theorem zX0_init_b137 {nf : Nat} {dA : Nat → ClassId} {T : xT} {N : xT} {Z : Nat} {S : Nat} {I : xI} {R : xR}  {x0 : Nat} {z0 : Nat} {z1 : Nat} {To : xT} {No : xT} {Zo : Nat} {So : Nat} {Io : xI} {Ro : xR}  (hf : fX0_init_b137 nf (sv dA) T N Z S I R x0 z0 z1 = some (To, No, Zo, So, Io, Ro)) : Z ≤ Zo ∧ S ≤ So := by
  unfold fX0_init_b137 at hf
  replace hf := tg_s hf; obtain ⟨ht1, hf⟩ := hf
  replace hf := nm_s hf; obtain ⟨R2, hR2, hf⟩ := hf
  replace hf := nm_s hf; obtain ⟨T3, hT3, hf⟩ := hf
  replace hf := nm_s hf; obtain ⟨N4, hN4, hf⟩ := hf
  replace hf := nm_s hf; obtain ⟨Z5, hZ5, hf⟩ := hf
  replace hf := nm_s hf; obtain ⟨S6, hS6, hf⟩ := hf
  have hm := zX0_init_b145 hf
  exact ⟨by omega, by omega⟩
set_option maxHeartbeats 400000 in
set_option maxRecDepth 100000 in
theorem wX0_init_b137 {nf : Nat} {kc ks : Nat} {cells slots : Nat} {p : Program} {l : Launch} {e : Env} {s : State} {m : MethodId} {args : Array Value} {below : List Frame} {meth : Method} {c : Code} {D : va_G} {dA : Nat → ClassId} {s0 : Nat} {T : xT} {N : xT} {Z : Nat} {S : Nat} {I : xI} {L : xL} {R : xR} {H : Heap} {locs : List Loc} {ls : Array Slot}  {x0 : Nat} {z0 : Nat} {z1 : Nat} {To : xT} {No : xT} {Zo : Nat} {So : Nat} {Io : xI} {Ro : xR} (X : Cx D dA s0 p m c cX0_init 2 s args RX0 meth) (hr : meth.sig.returnType = none) (hini : meth.name = "<init>")   (hf : fX0_init_b137 nf (sv dA) T N Z S I R x0 z0 z1 = some (To, No, Zo, So, Io, Ro)) (V : Iv D dA s0 s T N Z I L R H locs) (hl : lv_has ls 2 [(0, .ref x0)]) (hB : cells + (Zo - Z) ≤ kc ∧ slots + (So - S) ≤ ks) : W p l e { frames := 5, cells := kc, slots := ks, locals := 108 } s m args below meth c H locs cells slots (MQ below (xQ D dA s0 none To No Zo Io L Ro) args s kc ks (fun q => s0 ≤ q)) (F0 m 137 ls [.ref z1, .ref z0]) := by
  have hx := X.1.1
  have hb := X.1.2.1
  unfold fX0_init_b137 at hf
  replace hf := tg_s hf; obtain ⟨ht1, hf⟩ := hf
  replace hf := nm_s hf; obtain ⟨R2, hR2, hf⟩ := hf
  refine x_putr (pc := 137) X V okX0 (by decide) ht1 19 (by decide) q379 (Or.inr ⟨rfl, hini, rfl⟩) hR2 (fun _ _ _ => rfl) (v := .ref z1) rfl rfl rfl dX0_init_137 (fun H locs V => ?_)
  refine lv_aload_n (pc := 140) hx hb dX0_init_140 rfl (lv_at hl 0 rfl) ?_
  refine lv_bipush (pc := 141) (v := (ii 8)) hx hb dX0_init_141 (by decide) ?_
  replace hf := nm_s hf; obtain ⟨T3, hT3, hf⟩ := hf
  replace hf := nm_s hf; obtain ⟨N4, hN4, hf⟩ := hf
  replace hf := nm_s hf; obtain ⟨Z5, hZ5, hf⟩ := hf
  replace hf := nm_s hf; obtain ⟨S6, hS6, hf⟩ := hf
  have hm := zX0_init_b145 hf
  refine x_newa (pc := 143) X V (atype := .int) (k := 0) rfl (by decide) q192 (by decide) hT3 hN4 hZ5 (by show _ ≤ kc; omega) (by show _ ≤ ks; omega) dX0_init_143 (fun H V => ?_)
  exact wX0_init_b145 X hr hini hf V (lv_sub hl [0] rfl) ⟨by omega, by omega⟩
set_option maxHeartbeats 400000 in
set_option maxRecDepth 100000 in
theorem zX0_init_b129 {nf : Nat} {dA : Nat → ClassId} {T : xT} {N : xT} {Z : Nat} {S : Nat} {I : xI} {R : xR}  {x0 : Nat} {z0 : Nat} {z1 : Nat} {To : xT} {No : xT} {Zo : Nat} {So : Nat} {Io : xI} {Ro : xR}  (hf : fX0_init_b129 nf (sv dA) T N Z S I R x0 z0 z1 = some (To, No, Zo, So, Io, Ro)) : Z ≤ Zo ∧ S ≤ So := by
  unfold fX0_init_b129 at hf
  replace hf := tg_s hf; obtain ⟨ht1, hf⟩ := hf
  replace hf := nm_s hf; obtain ⟨R2, hR2, hf⟩ := hf
  replace hf := nm_s hf; obtain ⟨T3, hT3, hf⟩ := hf
  replace hf := nm_s hf; obtain ⟨N4, hN4, hf⟩ := hf
  replace hf := nm_s hf; obtain ⟨Z5, hZ5, hf⟩ := hf
  replace hf := nm_s hf; obtain ⟨S6, hS6, hf⟩ := hf
  have hm := zX0_init_b137 hf
  exact ⟨by omega, by omega⟩
set_option maxHeartbeats 400000 in
set_option maxRecDepth 100000 in
theorem wX0_init_b129 {nf : Nat} {kc ks : Nat} {cells slots : Nat} {p : Program} {l : Launch} {e : Env} {s : State} {m : MethodId} {args : Array Value} {below : List Frame} {meth : Method} {c : Code} {D : va_G} {dA : Nat → ClassId} {s0 : Nat} {T : xT} {N : xT} {Z : Nat} {S : Nat} {I : xI} {L : xL} {R : xR} {H : Heap} {locs : List Loc} {ls : Array Slot}  {x0 : Nat} {z0 : Nat} {z1 : Nat} {To : xT} {No : xT} {Zo : Nat} {So : Nat} {Io : xI} {Ro : xR} (X : Cx D dA s0 p m c cX0_init 2 s args RX0 meth) (hr : meth.sig.returnType = none) (hini : meth.name = "<init>")   (hf : fX0_init_b129 nf (sv dA) T N Z S I R x0 z0 z1 = some (To, No, Zo, So, Io, Ro)) (V : Iv D dA s0 s T N Z I L R H locs) (hl : lv_has ls 2 [(0, .ref x0)]) (hB : cells + (Zo - Z) ≤ kc ∧ slots + (So - S) ≤ ks) : W p l e { frames := 5, cells := kc, slots := ks, locals := 108 } s m args below meth c H locs cells slots (MQ below (xQ D dA s0 none To No Zo Io L Ro) args s kc ks (fun q => s0 ≤ q)) (F0 m 129 ls [.ref z1, .ref z0]) := by
  have hx := X.1.1
  have hb := X.1.2.1
  unfold fX0_init_b129 at hf
  replace hf := tg_s hf; obtain ⟨ht1, hf⟩ := hf
  replace hf := nm_s hf; obtain ⟨R2, hR2, hf⟩ := hf
  refine x_putr (pc := 129) X V okX0 (by decide) ht1 18 (by decide) q378 (Or.inr ⟨rfl, hini, rfl⟩) hR2 (fun _ _ _ => rfl) (v := .ref z1) rfl rfl rfl dX0_init_129 (fun H locs V => ?_)
  refine lv_aload_n (pc := 132) hx hb dX0_init_132 rfl (lv_at hl 0 rfl) ?_
  refine lv_bipush (pc := 133) (v := (ii 64)) hx hb dX0_init_133 (by decide) ?_
  replace hf := nm_s hf; obtain ⟨T3, hT3, hf⟩ := hf
  replace hf := nm_s hf; obtain ⟨N4, hN4, hf⟩ := hf
  replace hf := nm_s hf; obtain ⟨Z5, hZ5, hf⟩ := hf
  replace hf := nm_s hf; obtain ⟨S6, hS6, hf⟩ := hf
  have hm := zX0_init_b137 hf
  refine x_newa (pc := 135) X V (atype := .int) (k := 0) rfl (by decide) q192 (by decide) hT3 hN4 hZ5 (by show _ ≤ kc; omega) (by show _ ≤ ks; omega) dX0_init_135 (fun H V => ?_)
  exact wX0_init_b137 X hr hini hf V (lv_sub hl [0] rfl) ⟨by omega, by omega⟩
set_option maxHeartbeats 400000 in
set_option maxRecDepth 100000 in
theorem zX0_init_b122 {nf : Nat} {dA : Nat → ClassId} {T : xT} {N : xT} {Z : Nat} {S : Nat} {I : xI} {R : xR}  {x0 : Nat} {z0 : Nat} {z1 : Nat} {To : xT} {No : xT} {Zo : Nat} {So : Nat} {Io : xI} {Ro : xR}  (hf : fX0_init_b122 nf (sv dA) T N Z S I R x0 z0 z1 = some (To, No, Zo, So, Io, Ro)) : Z ≤ Zo ∧ S ≤ So := by
  unfold fX0_init_b122 at hf
  replace hf := tg_s hf; obtain ⟨ht1, hf⟩ := hf
  replace hf := nm_s hf; obtain ⟨R2, hR2, hf⟩ := hf
  replace hf := nm_s hf; obtain ⟨T3, hT3, hf⟩ := hf
  replace hf := nm_s hf; obtain ⟨N4, hN4, hf⟩ := hf
  replace hf := nm_s hf; obtain ⟨Z5, hZ5, hf⟩ := hf
  replace hf := nm_s hf; obtain ⟨S6, hS6, hf⟩ := hf
  have hm := zX0_init_b129 hf
  exact ⟨by omega, by omega⟩
set_option maxHeartbeats 400000 in
set_option maxRecDepth 100000 in
theorem wX0_init_b122 {nf : Nat} {kc ks : Nat} {cells slots : Nat} {p : Program} {l : Launch} {e : Env} {s : State} {m : MethodId} {args : Array Value} {below : List Frame} {meth : Method} {c : Code} {D : va_G} {dA : Nat → ClassId} {s0 : Nat} {T : xT} {N : xT} {Z : Nat} {S : Nat} {I : xI} {L : xL} {R : xR} {H : Heap} {locs : List Loc} {ls : Array Slot}  {x0 : Nat} {z0 : Nat} {z1 : Nat} {To : xT} {No : xT} {Zo : Nat} {So : Nat} {Io : xI} {Ro : xR} (X : Cx D dA s0 p m c cX0_init 2 s args RX0 meth) (hr : meth.sig.returnType = none) (hini : meth.name = "<init>")   (hf : fX0_init_b122 nf (sv dA) T N Z S I R x0 z0 z1 = some (To, No, Zo, So, Io, Ro)) (V : Iv D dA s0 s T N Z I L R H locs) (hl : lv_has ls 2 [(0, .ref x0)]) (hB : cells + (Zo - Z) ≤ kc ∧ slots + (So - S) ≤ ks) : W p l e { frames := 5, cells := kc, slots := ks, locals := 108 } s m args below meth c H locs cells slots (MQ below (xQ D dA s0 none To No Zo Io L Ro) args s kc ks (fun q => s0 ≤ q)) (F0 m 122 ls [.ref z1, .ref z0]) := by
  have hx := X.1.1
  have hb := X.1.2.1
  unfold fX0_init_b122 at hf
  replace hf := tg_s hf; obtain ⟨ht1, hf⟩ := hf
  replace hf := nm_s hf; obtain ⟨R2, hR2, hf⟩ := hf
  refine x_putr (pc := 122) X V okX0 (by decide) ht1 17 (by decide) q377 (Or.inr ⟨rfl, hini, rfl⟩) hR2 (fun _ _ _ => rfl) (v := .ref z1) rfl rfl rfl dX0_init_122 (fun H locs V => ?_)
  refine lv_aload_n (pc := 125) hx hb dX0_init_125 rfl (lv_at hl 0 rfl) ?_
  refine lv_iconst (pc := 126) (v := (ii 4)) hx hb dX0_init_126 (by decide) ?_
  replace hf := nm_s hf; obtain ⟨T3, hT3, hf⟩ := hf
  replace hf := nm_s hf; obtain ⟨N4, hN4, hf⟩ := hf
  replace hf := nm_s hf; obtain ⟨Z5, hZ5, hf⟩ := hf
  replace hf := nm_s hf; obtain ⟨S6, hS6, hf⟩ := hf
  have hm := zX0_init_b129 hf
  refine x_newa (pc := 127) X V (atype := .int) (k := 0) rfl (by decide) q192 (by decide) hT3 hN4 hZ5 (by show _ ≤ kc; omega) (by show _ ≤ ks; omega) dX0_init_127 (fun H V => ?_)
  exact wX0_init_b129 X hr hini hf V (lv_sub hl [0] rfl) ⟨by omega, by omega⟩
set_option maxHeartbeats 400000 in
set_option maxRecDepth 100000 in
theorem zX0_init_b114 {nf : Nat} {dA : Nat → ClassId} {T : xT} {N : xT} {Z : Nat} {S : Nat} {I : xI} {R : xR}  {x0 : Nat} {z0 : Nat} {z1 : Nat} {To : xT} {No : xT} {Zo : Nat} {So : Nat} {Io : xI} {Ro : xR}  (hf : fX0_init_b114 nf (sv dA) T N Z S I R x0 z0 z1 = some (To, No, Zo, So, Io, Ro)) : Z ≤ Zo ∧ S ≤ So := by
  unfold fX0_init_b114 at hf
  replace hf := tg_s hf; obtain ⟨ht1, hf⟩ := hf
  replace hf := nm_s hf; obtain ⟨R2, hR2, hf⟩ := hf
  replace hf := nm_s hf; obtain ⟨T3, hT3, hf⟩ := hf
  replace hf := nm_s hf; obtain ⟨N4, hN4, hf⟩ := hf
  replace hf := nm_s hf; obtain ⟨Z5, hZ5, hf⟩ := hf
  replace hf := nm_s hf; obtain ⟨S6, hS6, hf⟩ := hf
  have hm := zX0_init_b122 hf
  exact ⟨by omega, by omega⟩
set_option maxHeartbeats 400000 in
set_option maxRecDepth 100000 in
theorem wX0_init_b114 {nf : Nat} {kc ks : Nat} {cells slots : Nat} {p : Program} {l : Launch} {e : Env} {s : State} {m : MethodId} {args : Array Value} {below : List Frame} {meth : Method} {c : Code} {D : va_G} {dA : Nat → ClassId} {s0 : Nat} {T : xT} {N : xT} {Z : Nat} {S : Nat} {I : xI} {L : xL} {R : xR} {H : Heap} {locs : List Loc} {ls : Array Slot}  {x0 : Nat} {z0 : Nat} {z1 : Nat} {To : xT} {No : xT} {Zo : Nat} {So : Nat} {Io : xI} {Ro : xR} (X : Cx D dA s0 p m c cX0_init 2 s args RX0 meth) (hr : meth.sig.returnType = none) (hini : meth.name = "<init>")   (hf : fX0_init_b114 nf (sv dA) T N Z S I R x0 z0 z1 = some (To, No, Zo, So, Io, Ro)) (V : Iv D dA s0 s T N Z I L R H locs) (hl : lv_has ls 2 [(0, .ref x0)]) (hB : cells + (Zo - Z) ≤ kc ∧ slots + (So - S) ≤ ks) : W p l e { frames := 5, cells := kc, slots := ks, locals := 108 } s m args below meth c H locs cells slots (MQ below (xQ D dA s0 none To No Zo Io L Ro) args s kc ks (fun q => s0 ≤ q)) (F0 m 114 ls [.ref z1, .ref z0]) := by
  have hx := X.1.1
  have hb := X.1.2.1
  unfold fX0_init_b114 at hf
  replace hf := tg_s hf; obtain ⟨ht1, hf⟩ := hf
  replace hf := nm_s hf; obtain ⟨R2, hR2, hf⟩ := hf
  refine x_putr (pc := 114) X V okX0 (by decide) ht1 16 (by decide) q376 (Or.inr ⟨rfl, hini, rfl⟩) hR2 (fun _ _ _ => rfl) (v := .ref z1) rfl rfl rfl dX0_init_114 (fun H locs V => ?_)
  refine lv_aload_n (pc := 117) hx hb dX0_init_117 rfl (lv_at hl 0 rfl) ?_
  refine lv_bipush (pc := 118) (v := (ii 10)) hx hb dX0_init_118 (by decide) ?_
  replace hf := nm_s hf; obtain ⟨T3, hT3, hf⟩ := hf
  replace hf := nm_s hf; obtain ⟨N4, hN4, hf⟩ := hf
  replace hf := nm_s hf; obtain ⟨Z5, hZ5, hf⟩ := hf
  replace hf := nm_s hf; obtain ⟨S6, hS6, hf⟩ := hf
  have hm := zX0_init_b122 hf
  refine x_newa (pc := 120) X V (atype := .int) (k := 0) rfl (by decide) q192 (by decide) hT3 hN4 hZ5 (by show _ ≤ kc; omega) (by show _ ≤ ks; omega) dX0_init_120 (fun H V => ?_)
  exact wX0_init_b122 X hr hini hf V (lv_sub hl [0] rfl) ⟨by omega, by omega⟩
set_option maxHeartbeats 400000 in
set_option maxRecDepth 100000 in
theorem zX0_init_b110 {nf : Nat} {dA : Nat → ClassId} {T : xT} {N : xT} {Z : Nat} {S : Nat} {I : xI} {R : xR}  {x0 : Nat} {z0 : Nat} {z1 : Nat} {To : xT} {No : xT} {Zo : Nat} {So : Nat} {Io : xI} {Ro : xR}  (hf : fX0_init_b110 nf (sv dA) T N Z S I R x0 z0 z1 = some (To, No, Zo, So, Io, Ro)) : Z ≤ Zo ∧ S ≤ So := by
  unfold fX0_init_b110 at hf
  replace hf := b5s hf; obtain ⟨T1, N2, Z3, S4, R5, hk_6, hf⟩ := hf
  have hm_hk_6 := zX3_init hk_6
  have hm := zX0_init_b114 hf
  exact ⟨by omega, by omega⟩
set_option maxHeartbeats 400000 in
set_option maxRecDepth 100000 in
theorem wX0_init_b110 {nf : Nat} {kc ks : Nat} {cells slots : Nat} {p : Program} {l : Launch} {e : Env} {s : State} {m : MethodId} {args : Array Value} {below : List Frame} {meth : Method} {c : Code} {D : va_G} {dA : Nat → ClassId} {s0 : Nat} {T : xT} {N : xT} {Z : Nat} {S : Nat} {I : xI} {L : xL} {R : xR} {H : Heap} {locs : List Loc} {ls : Array Slot}  {x0 : Nat} {z0 : Nat} {z1 : Nat} {To : xT} {No : xT} {Zo : Nat} {So : Nat} {Io : xI} {Ro : xR} (X : Cx D dA s0 p m c cX0_init 2 s args RX0 meth) (hr : meth.sig.returnType = none) (hini : meth.name = "<init>")   (hf : fX0_init_b110 nf (sv dA) T N Z S I R x0 z0 z1 = some (To, No, Zo, So, Io, Ro)) (V : Iv D dA s0 s T N Z I L R H locs) (hl : lv_has ls 2 [(0, .ref x0)]) (hB : cells + (Zo - Z) ≤ kc ∧ slots + (So - S) ≤ ks) : W p l e { frames := 5, cells := kc, slots := ks, locals := 108 } s m args below meth c H locs cells slots (MQ below (xQ D dA s0 none To No Zo Io L Ro) args s kc ks (fun q => s0 ≤ q)) (F0 m 110 ls [.ref z1, .ref z0]) := by
  have hx := X.1.1
  have hb := X.1.2.1
  unfold fX0_init_b110 at hf
  refine lv_dup (pc := 110) hx hb dX0_init_110 rfl ?_
  replace hf := b5s hf; obtain ⟨T1, N2, Z3, S4, R5, hk_6, hf⟩ := hf
  have hm_hk_6 := zX3_init hk_6
  have hm := zX0_init_b114 hf
  refine x_callIN (pc := 111) (As := []) (rest := [.ref z1, .ref z0]) X V (mX3_init l D dA s0 (kc := Z3 - Z) (ks := S4 - S) (Nat.le_refl _) (Nat.le_refl _) hk_6) q284 q285 q125 q286 rfl hsX3_init ⟨Nat.le_of_ble_eq_true rfl, Nat.le_of_ble_eq_true rfl⟩ rfl hl.1 rfl (Nat.le_of_ble_eq_true rfl) dX0_init_111 ⟨by show _ ≤ kc; omega, by show _ ≤ ks; omega⟩ (fun H locs V => W.eq (g2 := F0 m 114 ls [.ref z1, .ref z0]) rfl ?_)
  exact wX0_init_b114 X hr hini hf V (lv_sub hl [0] rfl) ⟨by omega, by omega⟩
set_option maxHeartbeats 400000 in
set_option maxRecDepth 100000 in
theorem zX0_init_b93 {nf : Nat} {dA : Nat → ClassId} {T : xT} {N : xT} {Z : Nat} {S : Nat} {I : xI} {R : xR}  {x0 : Nat} {z0 : Nat} {z1 : Nat} {To : xT} {No : xT} {Zo : Nat} {So : Nat} {Io : xI} {Ro : xR}  (hf : fX0_init_b93 nf (sv dA) T N Z S I R x0 z0 z1 = some (To, No, Zo, So, Io, Ro)) : Z ≤ Zo ∧ S ≤ So := by
  unfold fX0_init_b93 at hf
  replace hf := tg_s hf; obtain ⟨ht1, hf⟩ := hf
  replace hf := nm_s hf; obtain ⟨R2, hR2, hf⟩ := hf
  replace hf := tg_s hf; obtain ⟨ht3, hf⟩ := hf
  replace hf := nm_s hf; obtain ⟨I4, hI4, hf⟩ := hf
  replace hf := nm_s hf; obtain ⟨I5, hI5, hf⟩ := hf
  replace hf := nm_s hf; obtain ⟨T6, hT6, hf⟩ := hf
  replace hf := nm_s hf; obtain ⟨Z7, hZ7, hf⟩ := hf
  replace hf := nm_s hf; obtain ⟨S8, hS8, hf⟩ := hf
  have hm := zX0_init_b110 hf
  exact ⟨by omega, by omega⟩
set_option maxHeartbeats 400000 in
set_option maxRecDepth 100000 in
theorem wX0_init_b93 {nf : Nat} {kc ks : Nat} {cells slots : Nat} {p : Program} {l : Launch} {e : Env} {s : State} {m : MethodId} {args : Array Value} {below : List Frame} {meth : Method} {c : Code} {D : va_G} {dA : Nat → ClassId} {s0 : Nat} {T : xT} {N : xT} {Z : Nat} {S : Nat} {I : xI} {L : xL} {R : xR} {H : Heap} {locs : List Loc} {ls : Array Slot}  {x0 : Nat} {z0 : Nat} {z1 : Nat} {To : xT} {No : xT} {Zo : Nat} {So : Nat} {Io : xI} {Ro : xR} (X : Cx D dA s0 p m c cX0_init 2 s args RX0 meth) (hr : meth.sig.returnType = none) (hini : meth.name = "<init>")   (hf : fX0_init_b93 nf (sv dA) T N Z S I R x0 z0 z1 = some (To, No, Zo, So, Io, Ro)) (V : Iv D dA s0 s T N Z I L R H locs) (hl : lv_has ls 2 [(0, .ref x0)]) (hB : cells + (Zo - Z) ≤ kc ∧ slots + (So - S) ≤ ks) : W p l e { frames := 5, cells := kc, slots := ks, locals := 108 } s m args below meth c H locs cells slots (MQ below (xQ D dA s0 none To No Zo Io L Ro) args s kc ks (fun q => s0 ≤ q)) (F0 m 93 ls [.ref z1, .ref z0]) := by
  have hx := X.1.1
  have hb := X.1.2.1
  unfold fX0_init_b93 at hf
  replace hf := tg_s hf; obtain ⟨ht1, hf⟩ := hf
  replace hf := nm_s hf; obtain ⟨R2, hR2, hf⟩ := hf
  refine x_putr (pc := 93) X V okX0 (by decide) ht1 10 (by decide) q370 (Or.inr ⟨rfl, hini, rfl⟩) hR2 (fun _ _ _ => rfl) (v := .ref z1) rfl rfl rfl dX0_init_93 (fun H locs V => ?_)
  refine lv_aload_n (pc := 96) hx hb dX0_init_96 rfl (lv_at hl 0 rfl) ?_
  refine lv_iconst (pc := 97) (v := (-1 : Int32)) hx hb dX0_init_97 (by decide) ?_
  replace hf := tg_s hf; obtain ⟨ht3, hf⟩ := hf
  replace hf := nm_s hf; obtain ⟨I4, hI4, hf⟩ := hf
  refine x_puti (pc := 98) X V okX0 (by decide) ht3 12 (by decide) q372 (Or.inl rfl) hI4 (fun _ _ _ => rfl) rfl rfl dX0_init_98 (fun H locs V => ?_)
  refine lv_aload_n (pc := 101) hx hb dX0_init_101 rfl (lv_at hl 0 rfl) ?_
  refine lv_iconst (pc := 102) (v := (-1 : Int32)) hx hb dX0_init_102 (by decide) ?_
  replace hf := nm_s hf; obtain ⟨I5, hI5, hf⟩ := hf
  refine x_puti (pc := 103) X V okX0 (by decide) ht3 14 (by decide) q374 (Or.inl rfl) hI5 (fun _ _ _ => rfl) rfl rfl dX0_init_103 (fun H locs V => ?_)
  refine lv_aload_n (pc := 106) hx hb dX0_init_106 rfl (lv_at hl 0 rfl) ?_
  replace hf := nm_s hf; obtain ⟨T6, hT6, hf⟩ := hf
  replace hf := nm_s hf; obtain ⟨Z7, hZ7, hf⟩ := hf
  replace hf := nm_s hf; obtain ⟨S8, hS8, hf⟩ := hf
  have hm := zX0_init_b110 hf
  refine x_new (pc := 107) X V okX3 hT6 hZ7 q282 q283 q125 (by show _ ≤ kc; omega) (by show _ ≤ ks; omega) dX0_init_107 (fun H V => ?_)
  exact wX0_init_b110 X hr hini hf V (lv_sub hl [0] rfl) ⟨by omega, by omega⟩
set_option maxHeartbeats 400000 in
set_option maxRecDepth 100000 in
theorem zX0_init_b84 {nf : Nat} {dA : Nat → ClassId} {T : xT} {N : xT} {Z : Nat} {S : Nat} {I : xI} {R : xR}  {x0 : Nat} {z0 : Nat} {z1 : Nat} {To : xT} {No : xT} {Zo : Nat} {So : Nat} {Io : xI} {Ro : xR}  (hf : fX0_init_b84 nf (sv dA) T N Z S I R x0 z0 z1 = some (To, No, Zo, So, Io, Ro)) : Z ≤ Zo ∧ S ≤ So := by
  unfold fX0_init_b84 at hf
  replace hf := tg_s hf; obtain ⟨ht1, hf⟩ := hf
  replace hf := nm_s hf; obtain ⟨R2, hR2, hf⟩ := hf
  replace hf := nm_s hf; obtain ⟨T3, hT3, hf⟩ := hf
  replace hf := nm_s hf; obtain ⟨N4, hN4, hf⟩ := hf
  replace hf := nm_s hf; obtain ⟨Z5, hZ5, hf⟩ := hf
  replace hf := nm_s hf; obtain ⟨S6, hS6, hf⟩ := hf
  have hm := zX0_init_b93 hf
  exact ⟨by omega, by omega⟩
set_option maxHeartbeats 400000 in
set_option maxRecDepth 100000 in
theorem wX0_init_b84 {nf : Nat} {kc ks : Nat} {cells slots : Nat} {p : Program} {l : Launch} {e : Env} {s : State} {m : MethodId} {args : Array Value} {below : List Frame} {meth : Method} {c : Code} {D : va_G} {dA : Nat → ClassId} {s0 : Nat} {T : xT} {N : xT} {Z : Nat} {S : Nat} {I : xI} {L : xL} {R : xR} {H : Heap} {locs : List Loc} {ls : Array Slot}  {x0 : Nat} {z0 : Nat} {z1 : Nat} {To : xT} {No : xT} {Zo : Nat} {So : Nat} {Io : xI} {Ro : xR} (X : Cx D dA s0 p m c cX0_init 2 s args RX0 meth) (hr : meth.sig.returnType = none) (hini : meth.name = "<init>")   (hf : fX0_init_b84 nf (sv dA) T N Z S I R x0 z0 z1 = some (To, No, Zo, So, Io, Ro)) (V : Iv D dA s0 s T N Z I L R H locs) (hl : lv_has ls 2 [(0, .ref x0)]) (hB : cells + (Zo - Z) ≤ kc ∧ slots + (So - S) ≤ ks) : W p l e { frames := 5, cells := kc, slots := ks, locals := 108 } s m args below meth c H locs cells slots (MQ below (xQ D dA s0 none To No Zo Io L Ro) args s kc ks (fun q => s0 ≤ q)) (F0 m 84 ls [.ref z1, .ref z0]) := by
  have hx := X.1.1
  have hb := X.1.2.1
  unfold fX0_init_b84 at hf
  replace hf := tg_s hf; obtain ⟨ht1, hf⟩ := hf
  replace hf := nm_s hf; obtain ⟨R2, hR2, hf⟩ := hf
  refine x_putr (pc := 84) X V okX0 (by decide) ht1 9 (by decide) q369 (Or.inr ⟨rfl, hini, rfl⟩) hR2 (fun _ _ _ => rfl) (v := .ref z1) rfl rfl rfl dX0_init_84 (fun H locs V => ?_)
  refine lv_aload_n (pc := 87) hx hb dX0_init_87 rfl (lv_at hl 0 rfl) ?_
  refine lv_sipush (pc := 88) (v := (ii 400)) hx hb dX0_init_88 (by decide) ?_
  replace hf := nm_s hf; obtain ⟨T3, hT3, hf⟩ := hf
  replace hf := nm_s hf; obtain ⟨N4, hN4, hf⟩ := hf
  replace hf := nm_s hf; obtain ⟨Z5, hZ5, hf⟩ := hf
  replace hf := nm_s hf; obtain ⟨S6, hS6, hf⟩ := hf
  have hm := zX0_init_b93 hf
  refine x_newa (pc := 91) X V (atype := .byte) (k := 1) rfl (by decide) q348 (by decide) hT3 hN4 hZ5 (by show _ ≤ kc; omega) (by show _ ≤ ks; omega) dX0_init_91 (fun H V => ?_)
  exact wX0_init_b93 X hr hini hf V (lv_sub hl [0] rfl) ⟨by omega, by omega⟩
set_option maxHeartbeats 400000 in
set_option maxRecDepth 100000 in
theorem zX0_init_b80 {nf : Nat} {dA : Nat → ClassId} {T : xT} {N : xT} {Z : Nat} {S : Nat} {I : xI} {R : xR}  {x0 : Nat} {z0 : Nat} {z1 : Nat} {To : xT} {No : xT} {Zo : Nat} {So : Nat} {Io : xI} {Ro : xR}  (hf : fX0_init_b80 nf (sv dA) T N Z S I R x0 z0 z1 = some (To, No, Zo, So, Io, Ro)) : Z ≤ Zo ∧ S ≤ So := by
  unfold fX0_init_b80 at hf
  replace hf := b5s hf; obtain ⟨T1, N2, Z3, S4, R5, hk_6, hf⟩ := hf
  have hm_hk_6 := zX2_init hk_6
  have hm := zX0_init_b84 hf
  exact ⟨by omega, by omega⟩
set_option maxHeartbeats 400000 in
set_option maxRecDepth 100000 in
theorem wX0_init_b80 {nf : Nat} {kc ks : Nat} {cells slots : Nat} {p : Program} {l : Launch} {e : Env} {s : State} {m : MethodId} {args : Array Value} {below : List Frame} {meth : Method} {c : Code} {D : va_G} {dA : Nat → ClassId} {s0 : Nat} {T : xT} {N : xT} {Z : Nat} {S : Nat} {I : xI} {L : xL} {R : xR} {H : Heap} {locs : List Loc} {ls : Array Slot}  {x0 : Nat} {z0 : Nat} {z1 : Nat} {To : xT} {No : xT} {Zo : Nat} {So : Nat} {Io : xI} {Ro : xR} (X : Cx D dA s0 p m c cX0_init 2 s args RX0 meth) (hr : meth.sig.returnType = none) (hini : meth.name = "<init>")   (hf : fX0_init_b80 nf (sv dA) T N Z S I R x0 z0 z1 = some (To, No, Zo, So, Io, Ro)) (V : Iv D dA s0 s T N Z I L R H locs) (hl : lv_has ls 2 [(0, .ref x0)]) (hB : cells + (Zo - Z) ≤ kc ∧ slots + (So - S) ≤ ks) : W p l e { frames := 5, cells := kc, slots := ks, locals := 108 } s m args below meth c H locs cells slots (MQ below (xQ D dA s0 none To No Zo Io L Ro) args s kc ks (fun q => s0 ≤ q)) (F0 m 80 ls [.ref z1, .ref z0]) := by
  have hx := X.1.1
  have hb := X.1.2.1
  unfold fX0_init_b80 at hf
  refine lv_dup (pc := 80) hx hb dX0_init_80 rfl ?_
  replace hf := b5s hf; obtain ⟨T1, N2, Z3, S4, R5, hk_6, hf⟩ := hf
  have hm_hk_6 := zX2_init hk_6
  have hm := zX0_init_b84 hf
  refine x_callIN (pc := 81) (As := []) (rest := [.ref z1, .ref z0]) X V (mX2_init l D dA s0 (kc := Z3 - Z) (ks := S4 - S) (Nat.le_refl _) (Nat.le_refl _) hk_6) q281 q172 q121 q173 rfl hsX2_init ⟨Nat.le_of_ble_eq_true rfl, Nat.le_of_ble_eq_true rfl⟩ rfl hl.1 rfl (Nat.le_of_ble_eq_true rfl) dX0_init_81 ⟨by show _ ≤ kc; omega, by show _ ≤ ks; omega⟩ (fun H locs V => W.eq (g2 := F0 m 84 ls [.ref z1, .ref z0]) rfl ?_)
  exact wX0_init_b84 X hr hini hf V (lv_sub hl [0] rfl) ⟨by omega, by omega⟩
set_option maxHeartbeats 400000 in
set_option maxRecDepth 100000 in
theorem zX0_init_b73 {nf : Nat} {dA : Nat → ClassId} {T : xT} {N : xT} {Z : Nat} {S : Nat} {I : xI} {R : xR}  {x0 : Nat} {z0 : Nat} {z1 : Nat} {To : xT} {No : xT} {Zo : Nat} {So : Nat} {Io : xI} {Ro : xR}  (hf : fX0_init_b73 nf (sv dA) T N Z S I R x0 z0 z1 = some (To, No, Zo, So, Io, Ro)) : Z ≤ Zo ∧ S ≤ So := by
  unfold fX0_init_b73 at hf
  replace hf := tg_s hf; obtain ⟨ht1, hf⟩ := hf
  replace hf := nm_s hf; obtain ⟨R2, hR2, hf⟩ := hf
  replace hf := nm_s hf; obtain ⟨T3, hT3, hf⟩ := hf
  replace hf := nm_s hf; obtain ⟨Z4, hZ4, hf⟩ := hf
  replace hf := nm_s hf; obtain ⟨S5, hS5, hf⟩ := hf
  have hm := zX0_init_b80 hf
  exact ⟨by omega, by omega⟩
set_option maxHeartbeats 400000 in
set_option maxRecDepth 100000 in
theorem wX0_init_b73 {nf : Nat} {kc ks : Nat} {cells slots : Nat} {p : Program} {l : Launch} {e : Env} {s : State} {m : MethodId} {args : Array Value} {below : List Frame} {meth : Method} {c : Code} {D : va_G} {dA : Nat → ClassId} {s0 : Nat} {T : xT} {N : xT} {Z : Nat} {S : Nat} {I : xI} {L : xL} {R : xR} {H : Heap} {locs : List Loc} {ls : Array Slot}  {x0 : Nat} {z0 : Nat} {z1 : Nat} {To : xT} {No : xT} {Zo : Nat} {So : Nat} {Io : xI} {Ro : xR} (X : Cx D dA s0 p m c cX0_init 2 s args RX0 meth) (hr : meth.sig.returnType = none) (hini : meth.name = "<init>")   (hf : fX0_init_b73 nf (sv dA) T N Z S I R x0 z0 z1 = some (To, No, Zo, So, Io, Ro)) (V : Iv D dA s0 s T N Z I L R H locs) (hl : lv_has ls 2 [(0, .ref x0)]) (hB : cells + (Zo - Z) ≤ kc ∧ slots + (So - S) ≤ ks) : W p l e { frames := 5, cells := kc, slots := ks, locals := 108 } s m args below meth c H locs cells slots (MQ below (xQ D dA s0 none To No Zo Io L Ro) args s kc ks (fun q => s0 ≤ q)) (F0 m 73 ls [.ref z1, .ref z0]) := by
  have hx := X.1.1
  have hb := X.1.2.1
  unfold fX0_init_b73 at hf
  replace hf := tg_s hf; obtain ⟨ht1, hf⟩ := hf
  replace hf := nm_s hf; obtain ⟨R2, hR2, hf⟩ := hf
  refine x_putr (pc := 73) X V okX0 (by decide) ht1 8 (by decide) q368 (Or.inr ⟨rfl, hini, rfl⟩) hR2 (fun _ _ _ => rfl) (v := .ref z1) rfl rfl rfl dX0_init_73 (fun H locs V => ?_)
  refine lv_aload_n (pc := 76) hx hb dX0_init_76 rfl (lv_at hl 0 rfl) ?_
  replace hf := nm_s hf; obtain ⟨T3, hT3, hf⟩ := hf
  replace hf := nm_s hf; obtain ⟨Z4, hZ4, hf⟩ := hf
  replace hf := nm_s hf; obtain ⟨S5, hS5, hf⟩ := hf
  have hm := zX0_init_b80 hf
  refine x_new (pc := 77) X V okX2 hT3 hZ4 q279 q170 q121 (by show _ ≤ kc; omega) (by show _ ≤ ks; omega) dX0_init_77 (fun H V => ?_)
  exact wX0_init_b80 X hr hini hf V (lv_sub hl [0] rfl) ⟨by omega, by omega⟩
set_option maxHeartbeats 400000 in
set_option maxRecDepth 100000 in
theorem zX0_init_b69 {nf : Nat} {dA : Nat → ClassId} {T : xT} {N : xT} {Z : Nat} {S : Nat} {I : xI} {R : xR}  {x0 : Nat} {z0 : Nat} {z1 : Nat} {To : xT} {No : xT} {Zo : Nat} {So : Nat} {Io : xI} {Ro : xR}  (hf : fX0_init_b69 nf (sv dA) T N Z S I R x0 z0 z1 = some (To, No, Zo, So, Io, Ro)) : Z ≤ Zo ∧ S ≤ So := by
  unfold fX0_init_b69 at hf
  replace hf := b5s hf; obtain ⟨T1, N2, Z3, S4, R5, hk_6, hf⟩ := hf
  have hm_hk_6 := zX2_init hk_6
  have hm := zX0_init_b73 hf
  exact ⟨by omega, by omega⟩
set_option maxHeartbeats 400000 in
set_option maxRecDepth 100000 in
theorem wX0_init_b69 {nf : Nat} {kc ks : Nat} {cells slots : Nat} {p : Program} {l : Launch} {e : Env} {s : State} {m : MethodId} {args : Array Value} {below : List Frame} {meth : Method} {c : Code} {D : va_G} {dA : Nat → ClassId} {s0 : Nat} {T : xT} {N : xT} {Z : Nat} {S : Nat} {I : xI} {L : xL} {R : xR} {H : Heap} {locs : List Loc} {ls : Array Slot}  {x0 : Nat} {z0 : Nat} {z1 : Nat} {To : xT} {No : xT} {Zo : Nat} {So : Nat} {Io : xI} {Ro : xR} (X : Cx D dA s0 p m c cX0_init 2 s args RX0 meth) (hr : meth.sig.returnType = none) (hini : meth.name = "<init>")   (hf : fX0_init_b69 nf (sv dA) T N Z S I R x0 z0 z1 = some (To, No, Zo, So, Io, Ro)) (V : Iv D dA s0 s T N Z I L R H locs) (hl : lv_has ls 2 [(0, .ref x0)]) (hB : cells + (Zo - Z) ≤ kc ∧ slots + (So - S) ≤ ks) : W p l e { frames := 5, cells := kc, slots := ks, locals := 108 } s m args below meth c H locs cells slots (MQ below (xQ D dA s0 none To No Zo Io L Ro) args s kc ks (fun q => s0 ≤ q)) (F0 m 69 ls [.ref z1, .ref z0]) := by
  have hx := X.1.1
  have hb := X.1.2.1
  unfold fX0_init_b69 at hf
  refine lv_dup (pc := 69) hx hb dX0_init_69 rfl ?_
  replace hf := b5s hf; obtain ⟨T1, N2, Z3, S4, R5, hk_6, hf⟩ := hf
  have hm_hk_6 := zX2_init hk_6
  have hm := zX0_init_b73 hf
  refine x_callIN (pc := 70) (As := []) (rest := [.ref z1, .ref z0]) X V (mX2_init l D dA s0 (kc := Z3 - Z) (ks := S4 - S) (Nat.le_refl _) (Nat.le_refl _) hk_6) q281 q172 q121 q173 rfl hsX2_init ⟨Nat.le_of_ble_eq_true rfl, Nat.le_of_ble_eq_true rfl⟩ rfl hl.1 rfl (Nat.le_of_ble_eq_true rfl) dX0_init_70 ⟨by show _ ≤ kc; omega, by show _ ≤ ks; omega⟩ (fun H locs V => W.eq (g2 := F0 m 73 ls [.ref z1, .ref z0]) rfl ?_)
  exact wX0_init_b73 X hr hini hf V (lv_sub hl [0] rfl) ⟨by omega, by omega⟩
set_option maxHeartbeats 400000 in
set_option maxRecDepth 100000 in
theorem zX0_init_b62 {nf : Nat} {dA : Nat → ClassId} {T : xT} {N : xT} {Z : Nat} {S : Nat} {I : xI} {R : xR}  {x0 : Nat} {z0 : Nat} {z1 : Nat} {To : xT} {No : xT} {Zo : Nat} {So : Nat} {Io : xI} {Ro : xR}  (hf : fX0_init_b62 nf (sv dA) T N Z S I R x0 z0 z1 = some (To, No, Zo, So, Io, Ro)) : Z ≤ Zo ∧ S ≤ So := by
  unfold fX0_init_b62 at hf
  replace hf := tg_s hf; obtain ⟨ht1, hf⟩ := hf
  replace hf := nm_s hf; obtain ⟨R2, hR2, hf⟩ := hf
  replace hf := nm_s hf; obtain ⟨T3, hT3, hf⟩ := hf
  replace hf := nm_s hf; obtain ⟨Z4, hZ4, hf⟩ := hf
  replace hf := nm_s hf; obtain ⟨S5, hS5, hf⟩ := hf
  have hm := zX0_init_b69 hf
  exact ⟨by omega, by omega⟩
set_option maxHeartbeats 400000 in
set_option maxRecDepth 100000 in
theorem wX0_init_b62 {nf : Nat} {kc ks : Nat} {cells slots : Nat} {p : Program} {l : Launch} {e : Env} {s : State} {m : MethodId} {args : Array Value} {below : List Frame} {meth : Method} {c : Code} {D : va_G} {dA : Nat → ClassId} {s0 : Nat} {T : xT} {N : xT} {Z : Nat} {S : Nat} {I : xI} {L : xL} {R : xR} {H : Heap} {locs : List Loc} {ls : Array Slot}  {x0 : Nat} {z0 : Nat} {z1 : Nat} {To : xT} {No : xT} {Zo : Nat} {So : Nat} {Io : xI} {Ro : xR} (X : Cx D dA s0 p m c cX0_init 2 s args RX0 meth) (hr : meth.sig.returnType = none) (hini : meth.name = "<init>")   (hf : fX0_init_b62 nf (sv dA) T N Z S I R x0 z0 z1 = some (To, No, Zo, So, Io, Ro)) (V : Iv D dA s0 s T N Z I L R H locs) (hl : lv_has ls 2 [(0, .ref x0)]) (hB : cells + (Zo - Z) ≤ kc ∧ slots + (So - S) ≤ ks) : W p l e { frames := 5, cells := kc, slots := ks, locals := 108 } s m args below meth c H locs cells slots (MQ below (xQ D dA s0 none To No Zo Io L Ro) args s kc ks (fun q => s0 ≤ q)) (F0 m 62 ls [.ref z1, .ref z0]) := by
  have hx := X.1.1
  have hb := X.1.2.1
  unfold fX0_init_b62 at hf
  replace hf := tg_s hf; obtain ⟨ht1, hf⟩ := hf
  replace hf := nm_s hf; obtain ⟨R2, hR2, hf⟩ := hf
  refine x_putr (pc := 62) X V okX0 (by decide) ht1 7 (by decide) q367 (Or.inr ⟨rfl, hini, rfl⟩) hR2 (fun _ _ _ => rfl) (v := .ref z1) rfl rfl rfl dX0_init_62 (fun H locs V => ?_)
  refine lv_aload_n (pc := 65) hx hb dX0_init_65 rfl (lv_at hl 0 rfl) ?_
  replace hf := nm_s hf; obtain ⟨T3, hT3, hf⟩ := hf
  replace hf := nm_s hf; obtain ⟨Z4, hZ4, hf⟩ := hf
  replace hf := nm_s hf; obtain ⟨S5, hS5, hf⟩ := hf
  have hm := zX0_init_b69 hf
  refine x_new (pc := 66) X V okX2 hT3 hZ4 q279 q170 q121 (by show _ ≤ kc; omega) (by show _ ≤ ks; omega) dX0_init_66 (fun H V => ?_)
  exact wX0_init_b69 X hr hini hf V (lv_sub hl [0] rfl) ⟨by omega, by omega⟩
set_option maxHeartbeats 400000 in
set_option maxRecDepth 100000 in
theorem zX0_init_b54 {nf : Nat} {dA : Nat → ClassId} {T : xT} {N : xT} {Z : Nat} {S : Nat} {I : xI} {R : xR}  {x0 : Nat} {z0 : Nat} {z1 : Nat} {To : xT} {No : xT} {Zo : Nat} {So : Nat} {Io : xI} {Ro : xR}  (hf : fX0_init_b54 nf (sv dA) T N Z S I R x0 z0 z1 = some (To, No, Zo, So, Io, Ro)) : Z ≤ Zo ∧ S ≤ So := by
  unfold fX0_init_b54 at hf
  replace hf := tg_s hf; obtain ⟨ht1, hf⟩ := hf
  replace hf := nm_s hf; obtain ⟨R2, hR2, hf⟩ := hf
  replace hf := nm_s hf; obtain ⟨T3, hT3, hf⟩ := hf
  replace hf := nm_s hf; obtain ⟨N4, hN4, hf⟩ := hf
  replace hf := nm_s hf; obtain ⟨Z5, hZ5, hf⟩ := hf
  replace hf := nm_s hf; obtain ⟨S6, hS6, hf⟩ := hf
  have hm := zX0_init_b62 hf
  exact ⟨by omega, by omega⟩
set_option maxHeartbeats 400000 in
set_option maxRecDepth 100000 in
theorem wX0_init_b54 {nf : Nat} {kc ks : Nat} {cells slots : Nat} {p : Program} {l : Launch} {e : Env} {s : State} {m : MethodId} {args : Array Value} {below : List Frame} {meth : Method} {c : Code} {D : va_G} {dA : Nat → ClassId} {s0 : Nat} {T : xT} {N : xT} {Z : Nat} {S : Nat} {I : xI} {L : xL} {R : xR} {H : Heap} {locs : List Loc} {ls : Array Slot}  {x0 : Nat} {z0 : Nat} {z1 : Nat} {To : xT} {No : xT} {Zo : Nat} {So : Nat} {Io : xI} {Ro : xR} (X : Cx D dA s0 p m c cX0_init 2 s args RX0 meth) (hr : meth.sig.returnType = none) (hini : meth.name = "<init>")   (hf : fX0_init_b54 nf (sv dA) T N Z S I R x0 z0 z1 = some (To, No, Zo, So, Io, Ro)) (V : Iv D dA s0 s T N Z I L R H locs) (hl : lv_has ls 2 [(0, .ref x0)]) (hB : cells + (Zo - Z) ≤ kc ∧ slots + (So - S) ≤ ks) : W p l e { frames := 5, cells := kc, slots := ks, locals := 108 } s m args below meth c H locs cells slots (MQ below (xQ D dA s0 none To No Zo Io L Ro) args s kc ks (fun q => s0 ≤ q)) (F0 m 54 ls [.ref z1, .ref z0]) := by
  have hx := X.1.1
  have hb := X.1.2.1
  unfold fX0_init_b54 at hf
  replace hf := tg_s hf; obtain ⟨ht1, hf⟩ := hf
  replace hf := nm_s hf; obtain ⟨R2, hR2, hf⟩ := hf
  refine x_putr (pc := 54) X V okX0 (by decide) ht1 6 (by decide) q366 (Or.inr ⟨rfl, hini, rfl⟩) hR2 (fun _ _ _ => rfl) (v := .ref z1) rfl rfl rfl dX0_init_54 (fun H locs V => ?_)
  refine lv_aload_n (pc := 57) hx hb dX0_init_57 rfl (lv_at hl 0 rfl) ?_
  refine lv_bipush (pc := 58) (v := (ii 16)) hx hb dX0_init_58 (by decide) ?_
  replace hf := nm_s hf; obtain ⟨T3, hT3, hf⟩ := hf
  replace hf := nm_s hf; obtain ⟨N4, hN4, hf⟩ := hf
  replace hf := nm_s hf; obtain ⟨Z5, hZ5, hf⟩ := hf
  replace hf := nm_s hf; obtain ⟨S6, hS6, hf⟩ := hf
  have hm := zX0_init_b62 hf
  refine x_newa (pc := 60) X V (atype := .int) (k := 0) rfl (by decide) q192 (by decide) hT3 hN4 hZ5 (by show _ ≤ kc; omega) (by show _ ≤ ks; omega) dX0_init_60 (fun H V => ?_)
  exact wX0_init_b62 X hr hini hf V (lv_sub hl [0] rfl) ⟨by omega, by omega⟩
set_option maxHeartbeats 400000 in
set_option maxRecDepth 100000 in
theorem zX0_init_b46 {nf : Nat} {dA : Nat → ClassId} {T : xT} {N : xT} {Z : Nat} {S : Nat} {I : xI} {R : xR}  {x0 : Nat} {z0 : Nat} {z1 : Nat} {To : xT} {No : xT} {Zo : Nat} {So : Nat} {Io : xI} {Ro : xR}  (hf : fX0_init_b46 nf (sv dA) T N Z S I R x0 z0 z1 = some (To, No, Zo, So, Io, Ro)) : Z ≤ Zo ∧ S ≤ So := by
  unfold fX0_init_b46 at hf
  replace hf := tg_s hf; obtain ⟨ht1, hf⟩ := hf
  replace hf := nm_s hf; obtain ⟨R2, hR2, hf⟩ := hf
  replace hf := nm_s hf; obtain ⟨T3, hT3, hf⟩ := hf
  replace hf := nm_s hf; obtain ⟨N4, hN4, hf⟩ := hf
  replace hf := nm_s hf; obtain ⟨Z5, hZ5, hf⟩ := hf
  replace hf := nm_s hf; obtain ⟨S6, hS6, hf⟩ := hf
  have hm := zX0_init_b54 hf
  exact ⟨by omega, by omega⟩
set_option maxHeartbeats 400000 in
set_option maxRecDepth 100000 in
theorem wX0_init_b46 {nf : Nat} {kc ks : Nat} {cells slots : Nat} {p : Program} {l : Launch} {e : Env} {s : State} {m : MethodId} {args : Array Value} {below : List Frame} {meth : Method} {c : Code} {D : va_G} {dA : Nat → ClassId} {s0 : Nat} {T : xT} {N : xT} {Z : Nat} {S : Nat} {I : xI} {L : xL} {R : xR} {H : Heap} {locs : List Loc} {ls : Array Slot}  {x0 : Nat} {z0 : Nat} {z1 : Nat} {To : xT} {No : xT} {Zo : Nat} {So : Nat} {Io : xI} {Ro : xR} (X : Cx D dA s0 p m c cX0_init 2 s args RX0 meth) (hr : meth.sig.returnType = none) (hini : meth.name = "<init>")   (hf : fX0_init_b46 nf (sv dA) T N Z S I R x0 z0 z1 = some (To, No, Zo, So, Io, Ro)) (V : Iv D dA s0 s T N Z I L R H locs) (hl : lv_has ls 2 [(0, .ref x0)]) (hB : cells + (Zo - Z) ≤ kc ∧ slots + (So - S) ≤ ks) : W p l e { frames := 5, cells := kc, slots := ks, locals := 108 } s m args below meth c H locs cells slots (MQ below (xQ D dA s0 none To No Zo Io L Ro) args s kc ks (fun q => s0 ≤ q)) (F0 m 46 ls [.ref z1, .ref z0]) := by
  have hx := X.1.1
  have hb := X.1.2.1
  unfold fX0_init_b46 at hf
  replace hf := tg_s hf; obtain ⟨ht1, hf⟩ := hf
  replace hf := nm_s hf; obtain ⟨R2, hR2, hf⟩ := hf
  refine x_putr (pc := 46) X V okX0 (by decide) ht1 5 (by decide) q365 (Or.inr ⟨rfl, hini, rfl⟩) hR2 (fun _ _ _ => rfl) (v := .ref z1) rfl rfl rfl dX0_init_46 (fun H locs V => ?_)
  refine lv_aload_n (pc := 49) hx hb dX0_init_49 rfl (lv_at hl 0 rfl) ?_
  refine lv_bipush (pc := 50) (v := (ii 16)) hx hb dX0_init_50 (by decide) ?_
  replace hf := nm_s hf; obtain ⟨T3, hT3, hf⟩ := hf
  replace hf := nm_s hf; obtain ⟨N4, hN4, hf⟩ := hf
  replace hf := nm_s hf; obtain ⟨Z5, hZ5, hf⟩ := hf
  replace hf := nm_s hf; obtain ⟨S6, hS6, hf⟩ := hf
  have hm := zX0_init_b54 hf
  refine x_newa (pc := 52) X V (atype := .int) (k := 0) rfl (by decide) q192 (by decide) hT3 hN4 hZ5 (by show _ ≤ kc; omega) (by show _ ≤ ks; omega) dX0_init_52 (fun H V => ?_)
  exact wX0_init_b54 X hr hini hf V (lv_sub hl [0] rfl) ⟨by omega, by omega⟩
set_option maxHeartbeats 400000 in
set_option maxRecDepth 100000 in
theorem zX0_init_b37 {nf : Nat} {dA : Nat → ClassId} {T : xT} {N : xT} {Z : Nat} {S : Nat} {I : xI} {R : xR}  {x0 : Nat} {z0 : Nat} {z1 : Nat} {To : xT} {No : xT} {Zo : Nat} {So : Nat} {Io : xI} {Ro : xR}  (hf : fX0_init_b37 nf (sv dA) T N Z S I R x0 z0 z1 = some (To, No, Zo, So, Io, Ro)) : Z ≤ Zo ∧ S ≤ So := by
  unfold fX0_init_b37 at hf
  replace hf := tg_s hf; obtain ⟨ht1, hf⟩ := hf
  replace hf := nm_s hf; obtain ⟨R2, hR2, hf⟩ := hf
  replace hf := nm_s hf; obtain ⟨T3, hT3, hf⟩ := hf
  replace hf := nm_s hf; obtain ⟨N4, hN4, hf⟩ := hf
  replace hf := nm_s hf; obtain ⟨Z5, hZ5, hf⟩ := hf
  replace hf := nm_s hf; obtain ⟨S6, hS6, hf⟩ := hf
  have hm := zX0_init_b46 hf
  exact ⟨by omega, by omega⟩
set_option maxHeartbeats 400000 in
set_option maxRecDepth 100000 in
theorem wX0_init_b37 {nf : Nat} {kc ks : Nat} {cells slots : Nat} {p : Program} {l : Launch} {e : Env} {s : State} {m : MethodId} {args : Array Value} {below : List Frame} {meth : Method} {c : Code} {D : va_G} {dA : Nat → ClassId} {s0 : Nat} {T : xT} {N : xT} {Z : Nat} {S : Nat} {I : xI} {L : xL} {R : xR} {H : Heap} {locs : List Loc} {ls : Array Slot}  {x0 : Nat} {z0 : Nat} {z1 : Nat} {To : xT} {No : xT} {Zo : Nat} {So : Nat} {Io : xI} {Ro : xR} (X : Cx D dA s0 p m c cX0_init 2 s args RX0 meth) (hr : meth.sig.returnType = none) (hini : meth.name = "<init>")   (hf : fX0_init_b37 nf (sv dA) T N Z S I R x0 z0 z1 = some (To, No, Zo, So, Io, Ro)) (V : Iv D dA s0 s T N Z I L R H locs) (hl : lv_has ls 2 [(0, .ref x0)]) (hB : cells + (Zo - Z) ≤ kc ∧ slots + (So - S) ≤ ks) : W p l e { frames := 5, cells := kc, slots := ks, locals := 108 } s m args below meth c H locs cells slots (MQ below (xQ D dA s0 none To No Zo Io L Ro) args s kc ks (fun q => s0 ≤ q)) (F0 m 37 ls [.ref z1, .ref z0]) := by
  have hx := X.1.1
  have hb := X.1.2.1
  unfold fX0_init_b37 at hf
  replace hf := tg_s hf; obtain ⟨ht1, hf⟩ := hf
  replace hf := nm_s hf; obtain ⟨R2, hR2, hf⟩ := hf
  refine x_putr (pc := 37) X V okX0 (by decide) ht1 4 (by decide) q364 (Or.inr ⟨rfl, hini, rfl⟩) hR2 (fun _ _ _ => rfl) (v := .ref z1) rfl rfl rfl dX0_init_37 (fun H locs V => ?_)
  refine lv_aload_n (pc := 40) hx hb dX0_init_40 rfl (lv_at hl 0 rfl) ?_
  refine lv_bipush (pc := 41) (v := (ii 16)) hx hb dX0_init_41 (by decide) ?_
  replace hf := nm_s hf; obtain ⟨T3, hT3, hf⟩ := hf
  replace hf := nm_s hf; obtain ⟨N4, hN4, hf⟩ := hf
  replace hf := nm_s hf; obtain ⟨Z5, hZ5, hf⟩ := hf
  replace hf := nm_s hf; obtain ⟨S6, hS6, hf⟩ := hf
  have hm := zX0_init_b46 hf
  refine x_anew (pc := 43) X V (k := 6) rfl (by decide) (by decide) q279 (by decide) hT3 hN4 hZ5 (by show _ ≤ kc; omega) (by show _ ≤ ks; omega) dX0_init_43 (fun H V => ?_)
  exact wX0_init_b46 X hr hini hf V (lv_sub hl [0] rfl) ⟨by omega, by omega⟩
set_option maxHeartbeats 400000 in
set_option maxRecDepth 100000 in
theorem zX0_init_b28 {nf : Nat} {dA : Nat → ClassId} {T : xT} {N : xT} {Z : Nat} {S : Nat} {I : xI} {R : xR}  {x0 : Nat} {z0 : Nat} {z1 : Nat} {To : xT} {No : xT} {Zo : Nat} {So : Nat} {Io : xI} {Ro : xR}  (hf : fX0_init_b28 nf (sv dA) T N Z S I R x0 z0 z1 = some (To, No, Zo, So, Io, Ro)) : Z ≤ Zo ∧ S ≤ So := by
  unfold fX0_init_b28 at hf
  replace hf := tg_s hf; obtain ⟨ht1, hf⟩ := hf
  replace hf := nm_s hf; obtain ⟨R2, hR2, hf⟩ := hf
  replace hf := nm_s hf; obtain ⟨T3, hT3, hf⟩ := hf
  replace hf := nm_s hf; obtain ⟨N4, hN4, hf⟩ := hf
  replace hf := nm_s hf; obtain ⟨Z5, hZ5, hf⟩ := hf
  replace hf := nm_s hf; obtain ⟨S6, hS6, hf⟩ := hf
  have hm := zX0_init_b37 hf
  exact ⟨by omega, by omega⟩
set_option maxHeartbeats 400000 in
set_option maxRecDepth 100000 in
theorem wX0_init_b28 {nf : Nat} {kc ks : Nat} {cells slots : Nat} {p : Program} {l : Launch} {e : Env} {s : State} {m : MethodId} {args : Array Value} {below : List Frame} {meth : Method} {c : Code} {D : va_G} {dA : Nat → ClassId} {s0 : Nat} {T : xT} {N : xT} {Z : Nat} {S : Nat} {I : xI} {L : xL} {R : xR} {H : Heap} {locs : List Loc} {ls : Array Slot}  {x0 : Nat} {z0 : Nat} {z1 : Nat} {To : xT} {No : xT} {Zo : Nat} {So : Nat} {Io : xI} {Ro : xR} (X : Cx D dA s0 p m c cX0_init 2 s args RX0 meth) (hr : meth.sig.returnType = none) (hini : meth.name = "<init>")   (hf : fX0_init_b28 nf (sv dA) T N Z S I R x0 z0 z1 = some (To, No, Zo, So, Io, Ro)) (V : Iv D dA s0 s T N Z I L R H locs) (hl : lv_has ls 2 [(0, .ref x0)]) (hB : cells + (Zo - Z) ≤ kc ∧ slots + (So - S) ≤ ks) : W p l e { frames := 5, cells := kc, slots := ks, locals := 108 } s m args below meth c H locs cells slots (MQ below (xQ D dA s0 none To No Zo Io L Ro) args s kc ks (fun q => s0 ≤ q)) (F0 m 28 ls [.ref z1, .ref z0]) := by
  have hx := X.1.1
  have hb := X.1.2.1
  unfold fX0_init_b28 at hf
  replace hf := tg_s hf; obtain ⟨ht1, hf⟩ := hf
  replace hf := nm_s hf; obtain ⟨R2, hR2, hf⟩ := hf
  refine x_putr (pc := 28) X V okX0 (by decide) ht1 3 (by decide) q363 (Or.inr ⟨rfl, hini, rfl⟩) hR2 (fun _ _ _ => rfl) (v := .ref z1) rfl rfl rfl dX0_init_28 (fun H locs V => ?_)
  refine lv_aload_n (pc := 31) hx hb dX0_init_31 rfl (lv_at hl 0 rfl) ?_
  refine lv_bipush (pc := 32) (v := (ii 16)) hx hb dX0_init_32 (by decide) ?_
  replace hf := nm_s hf; obtain ⟨T3, hT3, hf⟩ := hf
  replace hf := nm_s hf; obtain ⟨N4, hN4, hf⟩ := hf
  replace hf := nm_s hf; obtain ⟨Z5, hZ5, hf⟩ := hf
  replace hf := nm_s hf; obtain ⟨S6, hS6, hf⟩ := hf
  have hm := zX0_init_b37 hf
  refine x_anew (pc := 34) X V (k := 6) rfl (by decide) (by decide) q279 (by decide) hT3 hN4 hZ5 (by show _ ≤ kc; omega) (by show _ ≤ ks; omega) dX0_init_34 (fun H V => ?_)
  exact wX0_init_b37 X hr hini hf V (lv_sub hl [0] rfl) ⟨by omega, by omega⟩
set_option maxHeartbeats 400000 in
set_option maxRecDepth 100000 in
theorem zX0_init_b20 {nf : Nat} {dA : Nat → ClassId} {T : xT} {N : xT} {Z : Nat} {S : Nat} {I : xI} {R : xR}  {x0 : Nat} {z0 : Nat} {z1 : Nat} {To : xT} {No : xT} {Zo : Nat} {So : Nat} {Io : xI} {Ro : xR}  (hf : fX0_init_b20 nf (sv dA) T N Z S I R x0 z0 z1 = some (To, No, Zo, So, Io, Ro)) : Z ≤ Zo ∧ S ≤ So := by
  unfold fX0_init_b20 at hf
  replace hf := tg_s hf; obtain ⟨ht1, hf⟩ := hf
  replace hf := nm_s hf; obtain ⟨R2, hR2, hf⟩ := hf
  replace hf := nm_s hf; obtain ⟨T3, hT3, hf⟩ := hf
  replace hf := nm_s hf; obtain ⟨N4, hN4, hf⟩ := hf
  replace hf := nm_s hf; obtain ⟨Z5, hZ5, hf⟩ := hf
  replace hf := nm_s hf; obtain ⟨S6, hS6, hf⟩ := hf
  have hm := zX0_init_b28 hf
  exact ⟨by omega, by omega⟩
set_option maxHeartbeats 400000 in
set_option maxRecDepth 100000 in
theorem wX0_init_b20 {nf : Nat} {kc ks : Nat} {cells slots : Nat} {p : Program} {l : Launch} {e : Env} {s : State} {m : MethodId} {args : Array Value} {below : List Frame} {meth : Method} {c : Code} {D : va_G} {dA : Nat → ClassId} {s0 : Nat} {T : xT} {N : xT} {Z : Nat} {S : Nat} {I : xI} {L : xL} {R : xR} {H : Heap} {locs : List Loc} {ls : Array Slot}  {x0 : Nat} {z0 : Nat} {z1 : Nat} {To : xT} {No : xT} {Zo : Nat} {So : Nat} {Io : xI} {Ro : xR} (X : Cx D dA s0 p m c cX0_init 2 s args RX0 meth) (hr : meth.sig.returnType = none) (hini : meth.name = "<init>")   (hf : fX0_init_b20 nf (sv dA) T N Z S I R x0 z0 z1 = some (To, No, Zo, So, Io, Ro)) (V : Iv D dA s0 s T N Z I L R H locs) (hl : lv_has ls 2 [(0, .ref x0)]) (hB : cells + (Zo - Z) ≤ kc ∧ slots + (So - S) ≤ ks) : W p l e { frames := 5, cells := kc, slots := ks, locals := 108 } s m args below meth c H locs cells slots (MQ below (xQ D dA s0 none To No Zo Io L Ro) args s kc ks (fun q => s0 ≤ q)) (F0 m 20 ls [.ref z1, .ref z0]) := by
  have hx := X.1.1
  have hb := X.1.2.1
  unfold fX0_init_b20 at hf
  replace hf := tg_s hf; obtain ⟨ht1, hf⟩ := hf
  replace hf := nm_s hf; obtain ⟨R2, hR2, hf⟩ := hf
  refine x_putr (pc := 20) X V okX0 (by decide) ht1 2 (by decide) q362 (Or.inr ⟨rfl, hini, rfl⟩) hR2 (fun _ _ _ => rfl) (v := .ref z1) rfl rfl rfl dX0_init_20 (fun H locs V => ?_)
  refine lv_aload_n (pc := 23) hx hb dX0_init_23 rfl (lv_at hl 0 rfl) ?_
  refine lv_iconst (pc := 24) (v := (ii 2)) hx hb dX0_init_24 (by decide) ?_
  replace hf := nm_s hf; obtain ⟨T3, hT3, hf⟩ := hf
  replace hf := nm_s hf; obtain ⟨N4, hN4, hf⟩ := hf
  replace hf := nm_s hf; obtain ⟨Z5, hZ5, hf⟩ := hf
  replace hf := nm_s hf; obtain ⟨S6, hS6, hf⟩ := hf
  have hm := zX0_init_b28 hf
  refine x_anew (pc := 25) X V (k := 5) rfl (by decide) (by decide) q163 (by decide) hT3 hN4 hZ5 (by show _ ≤ kc; omega) (by show _ ≤ ks; omega) dX0_init_25 (fun H V => ?_)
  exact wX0_init_b28 X hr hini hf V (lv_sub hl [0] rfl) ⟨by omega, by omega⟩
set_option maxHeartbeats 400000 in
set_option maxRecDepth 100000 in
theorem zX0_init_b16 {nf : Nat} {dA : Nat → ClassId} {T : xT} {N : xT} {Z : Nat} {S : Nat} {I : xI} {R : xR}  {x0 : Nat} {z0 : Nat} {z1 : Nat} {To : xT} {No : xT} {Zo : Nat} {So : Nat} {Io : xI} {Ro : xR}  (hf : fX0_init_b16 nf (sv dA) T N Z S I R x0 z0 z1 = some (To, No, Zo, So, Io, Ro)) : Z ≤ Zo ∧ S ≤ So := by
  unfold fX0_init_b16 at hf
  replace hf := b6s hf; obtain ⟨T1, N2, Z3, S4, I5, R6, hk_7, hf⟩ := hf
  have hm_hk_7 := zX1_init hk_7
  have hm := zX0_init_b20 hf
  exact ⟨by omega, by omega⟩
set_option maxHeartbeats 400000 in
set_option maxRecDepth 100000 in
theorem wX0_init_b16 {nf : Nat} {kc ks : Nat} {cells slots : Nat} {p : Program} {l : Launch} {e : Env} {s : State} {m : MethodId} {args : Array Value} {below : List Frame} {meth : Method} {c : Code} {D : va_G} {dA : Nat → ClassId} {s0 : Nat} {T : xT} {N : xT} {Z : Nat} {S : Nat} {I : xI} {L : xL} {R : xR} {H : Heap} {locs : List Loc} {ls : Array Slot}  {x0 : Nat} {z0 : Nat} {z1 : Nat} {To : xT} {No : xT} {Zo : Nat} {So : Nat} {Io : xI} {Ro : xR} (X : Cx D dA s0 p m c cX0_init 2 s args RX0 meth) (hr : meth.sig.returnType = none) (hini : meth.name = "<init>")   (hf : fX0_init_b16 nf (sv dA) T N Z S I R x0 z0 z1 = some (To, No, Zo, So, Io, Ro)) (V : Iv D dA s0 s T N Z I L R H locs) (hl : lv_has ls 2 [(0, .ref x0)]) (hB : cells + (Zo - Z) ≤ kc ∧ slots + (So - S) ≤ ks) : W p l e { frames := 5, cells := kc, slots := ks, locals := 108 } s m args below meth c H locs cells slots (MQ below (xQ D dA s0 none To No Zo Io L Ro) args s kc ks (fun q => s0 ≤ q)) (F0 m 16 ls [.ref z1, .ref z0]) := by
  have hx := X.1.1
  have hb := X.1.2.1
  unfold fX0_init_b16 at hf
  refine lv_dup (pc := 16) hx hb dX0_init_16 rfl ?_
  replace hf := b6s hf; obtain ⟨T1, N2, Z3, S4, I5, R6, hk_7, hf⟩ := hf
  have hm_hk_7 := zX1_init hk_7
  have hm := zX0_init_b20 hf
  refine x_callIN (pc := 17) (As := []) (rest := [.ref z1, .ref z0]) X V (mX1_init l D dA s0 (kc := Z3 - Z) (ks := S4 - S) (Nat.le_refl _) (Nat.le_refl _) hk_7) q165 q166 q120 q167 rfl hsX1_init ⟨Nat.le_of_ble_eq_true rfl, Nat.le_of_ble_eq_true rfl⟩ rfl hl.1 rfl (Nat.le_of_ble_eq_true rfl) dX0_init_17 ⟨by show _ ≤ kc; omega, by show _ ≤ ks; omega⟩ (fun H locs V => W.eq (g2 := F0 m 20 ls [.ref z1, .ref z0]) rfl ?_)
  exact wX0_init_b20 X hr hini hf V (lv_sub hl [0] rfl) ⟨by omega, by omega⟩
set_option maxHeartbeats 400000 in
set_option maxRecDepth 100000 in
theorem zX0_init_b9 {nf : Nat} {dA : Nat → ClassId} {T : xT} {N : xT} {Z : Nat} {S : Nat} {I : xI} {R : xR}  {x0 : Nat} {z0 : Nat} {z1 : Nat} {To : xT} {No : xT} {Zo : Nat} {So : Nat} {Io : xI} {Ro : xR}  (hf : fX0_init_b9 nf (sv dA) T N Z S I R x0 z0 z1 = some (To, No, Zo, So, Io, Ro)) : Z ≤ Zo ∧ S ≤ So := by
  unfold fX0_init_b9 at hf
  replace hf := tg_s hf; obtain ⟨ht1, hf⟩ := hf
  replace hf := nm_s hf; obtain ⟨R2, hR2, hf⟩ := hf
  replace hf := nm_s hf; obtain ⟨T3, hT3, hf⟩ := hf
  replace hf := nm_s hf; obtain ⟨Z4, hZ4, hf⟩ := hf
  replace hf := nm_s hf; obtain ⟨S5, hS5, hf⟩ := hf
  have hm := zX0_init_b16 hf
  exact ⟨by omega, by omega⟩
set_option maxHeartbeats 400000 in
set_option maxRecDepth 100000 in
theorem wX0_init_b9 {nf : Nat} {kc ks : Nat} {cells slots : Nat} {p : Program} {l : Launch} {e : Env} {s : State} {m : MethodId} {args : Array Value} {below : List Frame} {meth : Method} {c : Code} {D : va_G} {dA : Nat → ClassId} {s0 : Nat} {T : xT} {N : xT} {Z : Nat} {S : Nat} {I : xI} {L : xL} {R : xR} {H : Heap} {locs : List Loc} {ls : Array Slot}  {x0 : Nat} {z0 : Nat} {z1 : Nat} {To : xT} {No : xT} {Zo : Nat} {So : Nat} {Io : xI} {Ro : xR} (X : Cx D dA s0 p m c cX0_init 2 s args RX0 meth) (hr : meth.sig.returnType = none) (hini : meth.name = "<init>")   (hf : fX0_init_b9 nf (sv dA) T N Z S I R x0 z0 z1 = some (To, No, Zo, So, Io, Ro)) (V : Iv D dA s0 s T N Z I L R H locs) (hl : lv_has ls 2 [(0, .ref x0)]) (hB : cells + (Zo - Z) ≤ kc ∧ slots + (So - S) ≤ ks) : W p l e { frames := 5, cells := kc, slots := ks, locals := 108 } s m args below meth c H locs cells slots (MQ below (xQ D dA s0 none To No Zo Io L Ro) args s kc ks (fun q => s0 ≤ q)) (F0 m 9 ls [.ref z1, .ref z0]) := by
  have hx := X.1.1
  have hb := X.1.2.1
  unfold fX0_init_b9 at hf
  replace hf := tg_s hf; obtain ⟨ht1, hf⟩ := hf
  replace hf := nm_s hf; obtain ⟨R2, hR2, hf⟩ := hf
  refine x_putr (pc := 9) X V okX0 (by decide) ht1 1 (by decide) q361 (Or.inr ⟨rfl, hini, rfl⟩) hR2 (fun _ _ _ => rfl) (v := .ref z1) rfl rfl rfl dX0_init_9 (fun H locs V => ?_)
  refine lv_aload_n (pc := 12) hx hb dX0_init_12 rfl (lv_at hl 0 rfl) ?_
  replace hf := nm_s hf; obtain ⟨T3, hT3, hf⟩ := hf
  replace hf := nm_s hf; obtain ⟨Z4, hZ4, hf⟩ := hf
  replace hf := nm_s hf; obtain ⟨S5, hS5, hf⟩ := hf
  have hm := zX0_init_b16 hf
  refine x_new (pc := 13) X V okX1 hT3 hZ4 q163 q164 q120 (by show _ ≤ kc; omega) (by show _ ≤ ks; omega) dX0_init_13 (fun H V => ?_)
  exact wX0_init_b16 X hr hini hf V (lv_sub hl [0] rfl) ⟨by omega, by omega⟩
set_option maxHeartbeats 400000 in
set_option maxRecDepth 100000 in
theorem zX0_init {nf : Nat} {dA : Nat → ClassId} {T : xT} {N : xT} {Z : Nat} {S : Nat} {I : xI} {R : xR} {x0 : Nat} {To : xT} {No : xT} {Zo : Nat} {So : Nat} {Io : xI} {Ro : xR} (hf : fX0_init nf (sv dA) T N Z S I R x0 = some (To, No, Zo, So, Io, Ro)) : Z ≤ Zo ∧ S ≤ So := by
  unfold fX0_init at hf
  replace hf := nm_s hf; obtain ⟨T1, hT1, hf⟩ := hf
  replace hf := nm_s hf; obtain ⟨N2, hN2, hf⟩ := hf
  replace hf := nm_s hf; obtain ⟨Z3, hZ3, hf⟩ := hf
  replace hf := nm_s hf; obtain ⟨S4, hS4, hf⟩ := hf
  have hm := zX0_init_b9 hf
  exact ⟨by omega, by omega⟩
set_option maxHeartbeats 400000 in
set_option maxRecDepth 100000 in
theorem wX0_init_e {nf : Nat} {kc ks : Nat} {cells slots : Nat} {p : Program} {l : Launch} {e : Env} {s : State} {m : MethodId} {args : Array Value} {below : List Frame} {meth : Method} {c : Code} {D : va_G} {dA : Nat → ClassId} {s0 : Nat} {T : xT} {N : xT} {Z : Nat} {S : Nat} {I : xI} {L : xL} {R : xR} {H : Heap} {locs : List Loc} {ls : Array Slot} {x0 : Nat} {To : xT} {No : xT} {Zo : Nat} {So : Nat} {Io : xI} {Ro : xR} (X : Cx D dA s0 p m c cX0_init 2 s args RX0 meth) (hr : meth.sig.returnType = none) (hini : meth.name = "<init>") (hf : fX0_init nf (sv dA) T N Z S I R x0 = some (To, No, Zo, So, Io, Ro)) (V : Iv D dA s0 s T N Z I L R H locs) (hl : lv_has ls 2 [(0, .ref x0)]) (hB : cells + (Zo - Z) ≤ kc ∧ slots + (So - S) ≤ ks) : W p l e { frames := 5, cells := kc, slots := ks, locals := 108 } s m args below meth c H locs cells slots (MQ below (xQ D dA s0 none To No Zo Io L Ro) args s kc ks (fun q => s0 ≤ q)) (F0 m 0 ls []) := by
  have hx := X.1.1
  have hb := X.1.2.1
  unfold fX0_init at hf
  refine lv_aload_n (pc := 0) hx hb dX0_init_0 rfl (lv_at hl 0 rfl) ?_
  refine x_objInit (pc := 1) X q160 q161 q162 hl.1 (Nat.le_of_ble_eq_true rfl) (Nat.le_of_ble_eq_true rfl) dX0_init_1 ?_
  refine lv_aload_n (pc := 4) hx hb dX0_init_4 rfl (lv_at hl 0 rfl) ?_
  refine lv_bipush (pc := 5) (v := (ii 7)) hx hb dX0_init_5 (by decide) ?_
  replace hf := nm_s hf; obtain ⟨T1, hT1, hf⟩ := hf
  replace hf := nm_s hf; obtain ⟨N2, hN2, hf⟩ := hf
  replace hf := nm_s hf; obtain ⟨Z3, hZ3, hf⟩ := hf
  replace hf := nm_s hf; obtain ⟨S4, hS4, hf⟩ := hf
  have hm := zX0_init_b9 hf
  refine x_newa (pc := 7) X V (atype := .int) (k := 0) rfl (by decide) q192 (by decide) hT1 hN2 hZ3 (by show _ ≤ kc; omega) (by show _ ≤ ks; omega) dX0_init_7 (fun H V => ?_)
  exact wX0_init_b9 X hr hini hf V (lv_sub hl [0] rfl) ⟨by omega, by omega⟩
theorem mX0_init {nf : Nat} (l : Launch) (D : va_G) (dA : Nat → ClassId) (s0 : Nat) {kc ks : Nat} {T : xT} {N : xT} {Z : Nat} {S : Nat} {I : xI} {L : xL} {R : xR} {x0 : Nat} {To : xT} {No : xT} {Zo : Nat} {So : Nat} {Io : xI} {Ro : xR} (hZ : Zo - Z ≤ kc) (hS : So - S ≤ ks) (hf : fX0_init nf (sv dA) T N Z S I R x0 = some (To, No, Zo, So, Io, Ro)) : XMet l D dA s0 yX0_init (ws_ yX0_init cX0_init 2 (none)) (5) (108) [.ref x0] T N Z I L R none To No Zo Io L Ro kc ks :=
  x_start (own := RX0) rfl (by decide) (Nat.le_of_ble_eq_true rfl) (lv := [(0, .ref x0)]) rfl (fun p e s m below meth c ls X hr hini V hl => wX0_init_e X hr hini hf V hl ⟨by omega, by omega⟩)
set_option maxHeartbeats 400000 in
set_option maxRecDepth 100000 in
theorem wX0_in_e {p : Program} {l : Launch} {e : Env} {s : State} {m : MethodId} {args : Array Value} {below : List Frame} {meth : Method} {c : Code} {D : va_G} {dA : Nat → ClassId} {s0 : Nat} {T : xT} {N : xT} {Z : Nat} {I : xI} {L : xL} {R : xR} {H : Heap} {locs : List Loc} {ls : Array Slot} {x0 : Int32} {x1 : Int32} {x2 : Int32} {ro : Int32} (X : Cx D dA s0 p m c cX0_in 3 s args RX0 meth) (hr : meth.sig.returnType = (some .boolean)) (hf : fX0_in x0 x1 x2 = some ro) (V : Iv D dA s0 s T N Z I L R H locs) (hl : lv_has ls 3 [(0, .int x0), (1, .int x1), (2, .int x2)]) : W p l e { frames := 0, cells := 0, slots := 0, locals := 0 } s m args below meth c H locs 0 0 (MQ below (xQ D dA s0 (some (.int ro)) T N Z I L R) args s 0 0 (fun q => s0 ≤ q)) (F0 m 0 ls []) := by
  have hx := X.1.1
  have hb := X.1.2.1
  unfold fX0_in at hf
  refine lv_iload_n (pc := 0) hx hb dX0_in_0 rfl (lv_at hl 0 rfl) ?_
  refine lv_iload_n (pc := 1) hx hb dX0_in_1 rfl (lv_at hl 1 rfl) ?_
  refine lv_icmp_lt (pc := 2) (tgt := 14) hx hb dX0_in_2 (by decide) (fun c1 => ?_) (fun c1 => ?_)
  · replace hf := if_t hf c1
    refine lv_iconst (pc := 14) (v := (ii 0)) hx hb dX0_in_14 (by decide) ?_
    cases hf
    exact x_zret (pc := 15) X V hr (by decide) dX0_in_15
  · replace hf := if_f hf c1
    refine lv_iload_n (pc := 5) hx hb dX0_in_5 rfl (lv_at hl 0 rfl) ?_
    refine lv_iload_n (pc := 6) hx hb dX0_in_6 rfl (lv_at hl 2 rfl) ?_
    refine lv_icmp_gt (pc := 7) (tgt := 14) hx hb dX0_in_7 (by decide) (fun c2 => ?_) (fun c2 => ?_)
    · replace hf := if_t hf c2
      refine lv_iconst (pc := 14) (v := (ii 0)) hx hb dX0_in_14 (by decide) ?_
      cases hf
      exact x_zret (pc := 15) X V hr (by decide) dX0_in_15
    · replace hf := if_f hf c2
      refine lv_iconst (pc := 10) (v := (ii 1)) hx hb dX0_in_10 (by decide) ?_
      refine lv_goto (pc := 11) (tgt := 15) hx hb dX0_in_11 (by decide) ?_
      cases hf
      exact x_zret (pc := 15) X V hr (by decide) dX0_in_15
theorem mX0_in (l : Launch) (D : va_G) (dA : Nat → ClassId) (s0 : Nat) {T : xT} {N : xT} {Z : Nat} {I : xI} {L : xL} {R : xR} {x0 : Int32} {x1 : Int32} {x2 : Int32} {ro : Int32} (hf : fX0_in x0 x1 x2 = some ro) : XMet l D dA s0 yX0_in (ws_ yX0_in cX0_in 3 ((some .boolean))) (0) (0) [.int x0, .int x1, .int x2] T N Z I L R (some (.int ro)) T N Z I L R 0 0 :=
  x_start (own := RX0) rfl (by decide) (Nat.le_of_ble_eq_true rfl) (lv := [(0, .int x0), (1, .int x1), (2, .int x2)]) rfl (fun p e s m below meth c ls X hr hini V hl => wX0_in_e X hr hf V hl)
set_option maxHeartbeats 400000 in
set_option maxRecDepth 100000 in
theorem wX0_refuse_e {p : Program} {l : Launch} {e : Env} {s : State} {m : MethodId} {args : Array Value} {below : List Frame} {meth : Method} {c : Code} {D : va_G} {dA : Nat → ClassId} {s0 : Nat} {T : xT} {N : xT} {Z : Nat} {I : xI} {L : xL} {R : xR} {H : Heap} {locs : List Loc} {ls : Array Slot} {x0 : Nat} {x1 : Int32} {ro : Int32} {Io : xI} (X : Cx D dA s0 p m c cX0_refuse 2 s args RX0 meth) (hr : meth.sig.returnType = (some .int)) (hf : fX0_refuse T N I R x0 x1 = some (ro, Io)) (V : Iv D dA s0 s T N Z I L R H locs) (hl : lv_has ls 2 [(0, .ref x0), (1, .int x1)]) : W p l e { frames := 0, cells := 0, slots := 0, locals := 0 } s m args below meth c H locs 0 0 (MQ below (xQ D dA s0 (some (.int ro)) T N Z Io L R) args s 0 0 (fun q => s0 ≤ q)) (F0 m 0 ls []) := by
  have hx := X.1.1
  have hb := X.1.2.1
  unfold fX0_refuse at hf
  refine lv_aload_n (pc := 0) hx hb dX0_refuse_0 rfl (lv_at hl 0 rfl) ?_
  refine lv_iload_n (pc := 1) hx hb dX0_refuse_1 rfl (lv_at hl 1 rfl) ?_
  replace hf := tg_s hf; obtain ⟨ht1, hf⟩ := hf
  replace hf := nm_s hf; obtain ⟨I2, hI2, hf⟩ := hf
  refine x_puti (pc := 2) X V okX0 (by decide) ht1 0 (by decide) q360 (Or.inl rfl) hI2 (fun _ _ _ => rfl) rfl rfl dX0_refuse_2 (fun H locs V => ?_)
  refine lv_aload_n (pc := 5) hx hb dX0_refuse_5 rfl (lv_at hl 0 rfl) ?_
  replace hf := bs hf; obtain ⟨a3, ha3, hf⟩ := hf
  refine x_get (pc := 6) X V okX0 ht1 1 (by decide) q361 (v := va_rf (R x0 1)) rfl dX0_refuse_6 ?_
  refine x_topr ha3 ?_
  refine lv_iload_n (pc := 9) hx hb dX0_refuse_9 rfl (lv_at hl 1 rfl) ?_
  refine lv_ineg (pc := 10) hx hb dX0_refuse_10 ?_
  refine lv_dup2_11 (pc := 11) hx hb dX0_refuse_11 rfl rfl ?_
  replace hf := rA_s hf; obtain ⟨j4, hjj4, htj4, hij4, hf⟩ := hf
  refine x_iald (pc := 12) X V htj4 hij4 hjj4 dX0_refuse_12 ?_
  refine lv_iconst (pc := 13) (v := (ii 1)) hx hb dX0_refuse_13 (by decide) ?_
  refine lv_iadd (pc := 14) hx hb dX0_refuse_14 ?_
  replace hf := nm_s hf; obtain ⟨I5, hI5, hf⟩ := hf
  refine x_iast (pc := 15) X V htj4 hij4 hjj4 hI5 dX0_refuse_15 (fun H locs V => ?_)
  refine lv_iload_n (pc := 16) hx hb dX0_refuse_16 rfl (lv_at hl 1 rfl) ?_
  cases hf
  exact x_iret (pc := 17) X V hr dX0_refuse_17
theorem mX0_refuse (l : Launch) (D : va_G) (dA : Nat → ClassId) (s0 : Nat) {T : xT} {N : xT} {Z : Nat} {I : xI} {L : xL} {R : xR} {x0 : Nat} {x1 : Int32} {ro : Int32} {Io : xI} (hf : fX0_refuse T N I R x0 x1 = some (ro, Io)) : XMet l D dA s0 yX0_refuse (ws_ yX0_refuse cX0_refuse 2 ((some .int))) (0) (0) [.ref x0, .int x1] T N Z I L R (some (.int ro)) T N Z Io L R 0 0 :=
  x_start (own := RX0) rfl (by decide) (Nat.le_of_ble_eq_true rfl) (lv := [(0, .ref x0), (1, .int x1)]) rfl (fun p e s m below meth c ls X hr hini V hl => wX0_refuse_e X hr hf V hl)
set_option maxHeartbeats 400000 in
set_option maxRecDepth 100000 in
theorem wX0_done_e {p : Program} {l : Launch} {e : Env} {s : State} {m : MethodId} {args : Array Value} {below : List Frame} {meth : Method} {c : Code} {D : va_G} {dA : Nat → ClassId} {s0 : Nat} {T : xT} {N : xT} {Z : Nat} {I : xI} {L : xL} {R : xR} {H : Heap} {locs : List Loc} {ls : Array Slot} {x0 : Nat} {x1 : Int32} {ro : Int32} {Io : xI} (X : Cx D dA s0 p m c cX0_done 2 s args RX0 meth) (hr : meth.sig.returnType = (some .int)) (hf : fX0_done T I x0 x1 = some (ro, Io)) (V : Iv D dA s0 s T N Z I L R H locs) (hl : lv_has ls 2 [(0, .ref x0), (1, .int x1)]) : W p l e { frames := 0, cells := 0, slots := 0, locals := 0 } s m args below meth c H locs 0 0 (MQ below (xQ D dA s0 (some (.int ro)) T N Z Io L R) args s 0 0 (fun q => s0 ≤ q)) (F0 m 0 ls []) := by
  have hx := X.1.1
  have hb := X.1.2.1
  unfold fX0_done at hf
  refine lv_aload_n (pc := 0) hx hb dX0_done_0 rfl (lv_at hl 0 rfl) ?_
  refine lv_iconst (pc := 1) (v := (ii 0)) hx hb dX0_done_1 (by decide) ?_
  replace hf := tg_s hf; obtain ⟨ht1, hf⟩ := hf
  replace hf := nm_s hf; obtain ⟨I2, hI2, hf⟩ := hf
  refine x_puti (pc := 2) X V okX0 (by decide) ht1 0 (by decide) q360 (Or.inl rfl) hI2 (fun _ _ _ => rfl) rfl rfl dX0_done_2 (fun H locs V => ?_)
  refine lv_iload_n (pc := 5) hx hb dX0_done_5 rfl (lv_at hl 1 rfl) ?_
  cases hf
  exact x_iret (pc := 6) X V hr dX0_done_6
theorem mX0_done (l : Launch) (D : va_G) (dA : Nat → ClassId) (s0 : Nat) {T : xT} {N : xT} {Z : Nat} {I : xI} {L : xL} {R : xR} {x0 : Nat} {x1 : Int32} {ro : Int32} {Io : xI} (hf : fX0_done T I x0 x1 = some (ro, Io)) : XMet l D dA s0 yX0_done (ws_ yX0_done cX0_done 2 ((some .int))) (0) (0) [.ref x0, .int x1] T N Z I L R (some (.int ro)) T N Z Io L R 0 0 :=
  x_start (own := RX0) rfl (by decide) (Nat.le_of_ble_eq_true rfl) (lv := [(0, .ref x0), (1, .int x1)]) rfl (fun p e s m below meth c ls X hr hini V hl => wX0_done_e X hr hf V hl)
set_option maxHeartbeats 400000 in
set_option maxRecDepth 100000 in
theorem zX0_image_b50 {nf : Nat} {T : xT} {N : xT} {Z : Nat} {S : Nat} {I : xI} {R : xR}  {x0 : Nat} {ro : Int32} {To : xT} {No : xT} {Zo : Nat} {So : Nat} {Io : xI} {Ro : xR}  (hf : fX0_image_b50 nf T N Z S I R x0 = some (ro, To, No, Zo, So, Io, Ro)) : Z ≤ Zo ∧ S ≤ So := by
  unfold fX0_image_b50 at hf
  replace hf := tg_s hf; obtain ⟨ht4, hf⟩ := hf
  replace hf := b2s hf; obtain ⟨r1, I2, hk_3, hf⟩ := hf
  cases hf
  exact ⟨Nat.le_refl _, Nat.le_refl _⟩
set_option maxHeartbeats 400000 in
set_option maxRecDepth 100000 in
theorem wX0_image_b50 {nf : Nat} {kc ks : Nat} {cells slots : Nat} {p : Program} {l : Launch} {e : Env} {s : State} {m : MethodId} {args : Array Value} {below : List Frame} {meth : Method} {c : Code} {D : va_G} {dA : Nat → ClassId} {s0 : Nat} {T : xT} {N : xT} {Z : Nat} {S : Nat} {I : xI} {L : xL} {R : xR} {H : Heap} {locs : List Loc} {ls : Array Slot}  {x0 : Nat} {ro : Int32} {To : xT} {No : xT} {Zo : Nat} {So : Nat} {Io : xI} {Ro : xR} (X : Cx D dA s0 p m c cX0_image 2 s args RX0 meth) (hr : meth.sig.returnType = (some .int))   (hf : fX0_image_b50 nf T N Z S I R x0 = some (ro, To, No, Zo, So, Io, Ro)) (V : Iv D dA s0 s T N Z I L R H locs) (hl : lv_has ls 2 [(0, .ref x0)]) (hB : cells + (Zo - Z) ≤ kc ∧ slots + (So - S) ≤ ks) : W p l e { frames := 6, cells := kc, slots := ks, locals := 173 } s m args below meth c H locs cells slots (MQ below (xQ D dA s0 (some (.int ro)) To No Zo Io L Ro) args s kc ks (fun q => s0 ≤ q)) (F0 m 50 ls []) := by
  have hx := X.1.1
  have hb := X.1.2.1
  unfold fX0_image_b50 at hf
  refine lv_aload_n (pc := 50) hx hb dX0_image_50 rfl (lv_at hl 0 rfl) ?_
  refine lv_iconst (pc := 51) (v := (ii 0)) hx hb dX0_image_51 (by decide) ?_
  replace hf := tg_s hf; obtain ⟨ht4, hf⟩ := hf
  replace hf := b2s hf; obtain ⟨r1, I2, hk_3, hf⟩ := hf
  refine x_callV0 (pc := 52) (As := [.int (ii 0)]) (rest := []) X V (mX0_done l D dA s0 hk_3) okX0 ht4 q542 q544 qs3 q119 q545 ⟨rfl, hsX0_done⟩ ⟨Nat.le_of_ble_eq_true rfl, Nat.le_of_ble_eq_true rfl⟩ rfl hl.1 rfl (Nat.le_of_ble_eq_true rfl) dX0_image_52 ⟨by show cells ≤ kc; omega, by show slots ≤ ks; omega⟩ (fun H locs V => W.eq (g2 := F0 m 55 ls [.int r1]) rfl ?_)
  cases hf
  exact x_iretW (pc := 55) X V hr (by omega) (by omega) dX0_image_55
set_option maxHeartbeats 400000 in
set_option maxRecDepth 100000 in
theorem zX0_image_b37 {nf : Nat} {T : xT} {N : xT} {Z : Nat} {S : Nat} {I : xI} {R : xR}  {x0 : Nat} {x1 : Int32} {ro : Int32} {To : xT} {No : xT} {Zo : Nat} {So : Nat} {Io : xI} {Ro : xR}  (hf : fX0_image_b37 nf T N Z S I R x0 x1 = some (ro, To, No, Zo, So, Io, Ro)) : Z ≤ Zo ∧ S ≤ So := by
  unfold fX0_image_b37 at hf
  replace hf := tg_s hf; obtain ⟨ht1, hf⟩ := hf
  replace hf := bs hf; obtain ⟨a2, ha2, hf⟩ := hf
  replace hf := rA_s hf; obtain ⟨j3, hjj3, htj3, hij3, hf⟩ := hf
  replace hf := bs hf; obtain ⟨a4, ha4, hf⟩ := hf
  replace hf := bs hf; obtain ⟨a5, ha5, hf⟩ := hf
  replace hf := tg_s hf; obtain ⟨ht13, hf⟩ := hf
  replace hf := b6s hf; obtain ⟨T6, N7, Z8, S9, I10, R11, hk_12, hf⟩ := hf
  have hm_hk_12 := zX1_takes hk_12
  have hm := zX0_image_b50 hf
  exact ⟨by omega, by omega⟩
set_option maxHeartbeats 400000 in
set_option maxRecDepth 100000 in
theorem wX0_image_b37 {nf : Nat} {kc ks : Nat} {cells slots : Nat} {p : Program} {l : Launch} {e : Env} {s : State} {m : MethodId} {args : Array Value} {below : List Frame} {meth : Method} {c : Code} {D : va_G} {dA : Nat → ClassId} {s0 : Nat} {T : xT} {N : xT} {Z : Nat} {S : Nat} {I : xI} {L : xL} {R : xR} {H : Heap} {locs : List Loc} {ls : Array Slot}  {x0 : Nat} {x1 : Int32} {ro : Int32} {To : xT} {No : xT} {Zo : Nat} {So : Nat} {Io : xI} {Ro : xR} (X : Cx D dA s0 p m c cX0_image 2 s args RX0 meth) (hr : meth.sig.returnType = (some .int))   (hf : fX0_image_b37 nf T N Z S I R x0 x1 = some (ro, To, No, Zo, So, Io, Ro)) (V : Iv D dA s0 s T N Z I L R H locs) (hl : lv_has ls 2 [(0, .ref x0), (1, .int x1)]) (hB : cells + (Zo - Z) ≤ kc ∧ slots + (So - S) ≤ ks) : W p l e { frames := 6, cells := kc, slots := ks, locals := 173 } s m args below meth c H locs cells slots (MQ below (xQ D dA s0 (some (.int ro)) To No Zo Io L Ro) args s kc ks (fun q => s0 ≤ q)) (F0 m 37 ls []) := by
  have hx := X.1.1
  have hb := X.1.2.1
  unfold fX0_image_b37 at hf
  refine lv_aload_n (pc := 37) hx hb dX0_image_37 rfl (lv_at hl 0 rfl) ?_
  replace hf := tg_s hf; obtain ⟨ht1, hf⟩ := hf
  replace hf := bs hf; obtain ⟨a2, ha2, hf⟩ := hf
  refine x_get (pc := 38) X V okX0 ht1 3 (by decide) q363 (v := va_rf (R x0 3)) rfl dX0_image_38 ?_
  refine x_topr ha2 ?_
  refine lv_iload_n (pc := 41) hx hb dX0_image_41 rfl (lv_at hl 1 rfl) ?_
  replace hf := rA_s hf; obtain ⟨j3, hjj3, htj3, hij3, hf⟩ := hf
  refine x_aald (pc := 42) X V (k := 5) rfl (by decide) htj3 hij3 hjj3 dX0_image_42 ?_
  replace hf := bs hf; obtain ⟨a4, ha4, hf⟩ := hf
  refine x_topr ha4 ?_
  refine lv_aload_n (pc := 43) hx hb dX0_image_43 rfl (lv_at hl 0 rfl) ?_
  replace hf := bs hf; obtain ⟨a5, ha5, hf⟩ := hf
  refine x_get (pc := 44) X V okX0 ht1 2 (by decide) q362 (v := va_rf (R x0 2)) rfl dX0_image_44 ?_
  refine x_topr ha5 ?_
  replace hf := tg_s hf; obtain ⟨ht13, hf⟩ := hf
  replace hf := b6s hf; obtain ⟨T6, N7, Z8, S9, I10, R11, hk_12, hf⟩ := hf
  have hm_hk_12 := zX1_takes hk_12
  have hm := zX0_image_b50 hf
  refine x_callV (pc := 47) (As := [.ref a5]) (rest := []) X V (mX1_takes l D dA s0 (kc := Z8 - Z) (ks := S9 - S) (Nat.le_refl _) (Nat.le_refl _) hk_12) okX1 ht13 q456 q457 q458 q120 q459 ⟨rfl, hsX1_takes⟩ ⟨Nat.le_of_ble_eq_true rfl, Nat.le_of_ble_eq_true rfl⟩ rfl hl.1 rfl (Nat.le_of_ble_eq_true rfl) dX0_image_47 ⟨by show _ ≤ kc; omega, by show _ ≤ ks; omega⟩ (fun H locs V => W.eq (g2 := F0 m 50 ls []) rfl ?_)
  exact wX0_image_b50 X hr hf V (lv_sub hl [0] rfl) ⟨by omega, by omega⟩
set_option maxHeartbeats 400000 in
set_option maxRecDepth 100000 in
theorem zX0_image_b36 {nf : Nat} {T : xT} {N : xT} {Z : Nat} {S : Nat} {I : xI} {R : xR}  {x0 : Nat} {x1 : Int32} {z0 : Nat} {z1 : Int32} {z2 : Nat} {ro : Int32} {To : xT} {No : xT} {Zo : Nat} {So : Nat} {Io : xI} {Ro : xR}  (hf : fX0_image_b36 nf T N Z S I R x0 x1 z0 z1 z2 = some (ro, To, No, Zo, So, Io, Ro)) : Z ≤ Zo ∧ S ≤ So := by
  unfold fX0_image_b36 at hf
  replace hf := rA_s hf; obtain ⟨j1, hjj1, htj1, hij1, hf⟩ := hf
  replace hf := tg_s hf; obtain ⟨ht2, hf⟩ := hf
  replace hf := nm_s hf; obtain ⟨R3, hR3, hf⟩ := hf
  have hm := zX0_image_b37 hf
  exact ⟨by omega, by omega⟩
set_option maxHeartbeats 400000 in
set_option maxRecDepth 100000 in
theorem wX0_image_b36 {nf : Nat} {kc ks : Nat} {cells slots : Nat} {p : Program} {l : Launch} {e : Env} {s : State} {m : MethodId} {args : Array Value} {below : List Frame} {meth : Method} {c : Code} {D : va_G} {dA : Nat → ClassId} {s0 : Nat} {T : xT} {N : xT} {Z : Nat} {S : Nat} {I : xI} {L : xL} {R : xR} {H : Heap} {locs : List Loc} {ls : Array Slot}  {x0 : Nat} {x1 : Int32} {z0 : Nat} {z1 : Int32} {z2 : Nat} {ro : Int32} {To : xT} {No : xT} {Zo : Nat} {So : Nat} {Io : xI} {Ro : xR} (X : Cx D dA s0 p m c cX0_image 2 s args RX0 meth) (hr : meth.sig.returnType = (some .int))   (hf : fX0_image_b36 nf T N Z S I R x0 x1 z0 z1 z2 = some (ro, To, No, Zo, So, Io, Ro)) (V : Iv D dA s0 s T N Z I L R H locs) (hl : lv_has ls 2 [(0, .ref x0), (1, .int x1)]) (hB : cells + (Zo - Z) ≤ kc ∧ slots + (So - S) ≤ ks) : W p l e { frames := 6, cells := kc, slots := ks, locals := 173 } s m args below meth c H locs cells slots (MQ below (xQ D dA s0 (some (.int ro)) To No Zo Io L Ro) args s kc ks (fun q => s0 ≤ q)) (F0 m 36 ls [.ref z2, .int z1, .ref z0]) := by
  have hx := X.1.1
  have hb := X.1.2.1
  unfold fX0_image_b36 at hf
  replace hf := rA_s hf; obtain ⟨j1, hjj1, htj1, hij1, hf⟩ := hf
  replace hf := tg_s hf; obtain ⟨ht2, hf⟩ := hf
  replace hf := nm_s hf; obtain ⟨R3, hR3, hf⟩ := hf
  refine x_aast (pc := 36) X V (k := 5) rfl (by decide) htj1 hij1 hjj1 okX1 ht2 (Or.inl rfl) hR3 dX0_image_36 (fun H locs V => ?_)
  exact wX0_image_b37 X hr hf V (lv_sub hl [0, 1] rfl) ⟨by omega, by omega⟩
set_option maxHeartbeats 400000 in
set_option maxRecDepth 100000 in
theorem zX0_image_b32 {nf : Nat} {T : xT} {N : xT} {Z : Nat} {S : Nat} {I : xI} {R : xR}  {x0 : Nat} {x1 : Int32} {z0 : Nat} {z1 : Int32} {z2 : Nat} {ro : Int32} {To : xT} {No : xT} {Zo : Nat} {So : Nat} {Io : xI} {Ro : xR}  (hf : fX0_image_b32 nf T N Z S I R x0 x1 z0 z1 z2 = some (ro, To, No, Zo, So, Io, Ro)) : Z ≤ Zo ∧ S ≤ So := by
  unfold fX0_image_b32 at hf
  replace hf := b6s hf; obtain ⟨T1, N2, Z3, S4, I5, R6, hk_7, hf⟩ := hf
  have hm_hk_7 := zX1_init hk_7
  have hm := zX0_image_b36 hf
  exact ⟨by omega, by omega⟩
set_option maxHeartbeats 400000 in
set_option maxRecDepth 100000 in
theorem wX0_image_b32 {nf : Nat} {kc ks : Nat} {cells slots : Nat} {p : Program} {l : Launch} {e : Env} {s : State} {m : MethodId} {args : Array Value} {below : List Frame} {meth : Method} {c : Code} {D : va_G} {dA : Nat → ClassId} {s0 : Nat} {T : xT} {N : xT} {Z : Nat} {S : Nat} {I : xI} {L : xL} {R : xR} {H : Heap} {locs : List Loc} {ls : Array Slot}  {x0 : Nat} {x1 : Int32} {z0 : Nat} {z1 : Int32} {z2 : Nat} {ro : Int32} {To : xT} {No : xT} {Zo : Nat} {So : Nat} {Io : xI} {Ro : xR} (X : Cx D dA s0 p m c cX0_image 2 s args RX0 meth) (hr : meth.sig.returnType = (some .int))   (hf : fX0_image_b32 nf T N Z S I R x0 x1 z0 z1 z2 = some (ro, To, No, Zo, So, Io, Ro)) (V : Iv D dA s0 s T N Z I L R H locs) (hl : lv_has ls 2 [(0, .ref x0), (1, .int x1)]) (hB : cells + (Zo - Z) ≤ kc ∧ slots + (So - S) ≤ ks) : W p l e { frames := 6, cells := kc, slots := ks, locals := 173 } s m args below meth c H locs cells slots (MQ below (xQ D dA s0 (some (.int ro)) To No Zo Io L Ro) args s kc ks (fun q => s0 ≤ q)) (F0 m 32 ls [.ref z2, .int z1, .ref z0]) := by
  have hx := X.1.1
  have hb := X.1.2.1
  unfold fX0_image_b32 at hf
  refine lv_dup (pc := 32) hx hb dX0_image_32 rfl ?_
  replace hf := b6s hf; obtain ⟨T1, N2, Z3, S4, I5, R6, hk_7, hf⟩ := hf
  have hm_hk_7 := zX1_init hk_7
  have hm := zX0_image_b36 hf
  refine x_callIN (pc := 33) (As := []) (rest := [.ref z2, .int z1, .ref z0]) X V (mX1_init l D dA s0 (kc := Z3 - Z) (ks := S4 - S) (Nat.le_refl _) (Nat.le_refl _) hk_7) q165 q166 q120 q167 rfl hsX1_init ⟨Nat.le_of_ble_eq_true rfl, Nat.le_of_ble_eq_true rfl⟩ rfl hl.1 rfl (Nat.le_of_ble_eq_true rfl) dX0_image_33 ⟨by show _ ≤ kc; omega, by show _ ≤ ks; omega⟩ (fun H locs V => W.eq (g2 := F0 m 36 ls [.ref z2, .int z1, .ref z0]) rfl ?_)
  exact wX0_image_b36 X hr hf V (lv_sub hl [0, 1] rfl) ⟨by omega, by omega⟩
set_option maxHeartbeats 400000 in
set_option maxRecDepth 100000 in
theorem zX0_image {nf : Nat} {T : xT} {N : xT} {Z : Nat} {S : Nat} {I : xI} {R : xR} {x0 : Nat} {x1 : Int32} {ro : Int32} {To : xT} {No : xT} {Zo : Nat} {So : Nat} {Io : xI} {Ro : xR} (hf : fX0_image nf T N Z S I R x0 x1 = some (ro, To, No, Zo, So, Io, Ro)) : Z ≤ Zo ∧ S ≤ So := by
  unfold fX0_image at hf
  replace hf := bs hf; obtain ⟨r1, hk_2, hf⟩ := hf
  rcases (Decidable.em (r1 = (ii 0))).symm with c3 | c3
  · replace hf := if_f hf c3
    replace hf := tg_s hf; obtain ⟨ht4, hf⟩ := hf
    replace hf := bs hf; obtain ⟨a5, ha5, hf⟩ := hf
    replace hf := rA_s hf; obtain ⟨j6, hjj6, htj6, hij6, hf⟩ := hf
    replace hf := oc_s hf; rcases hf with ⟨ha7, hf⟩ | ⟨a7, ha7, hf⟩
    · skip
      replace hf := nm_s hf; obtain ⟨T8, hT8, hf⟩ := hf
      replace hf := nm_s hf; obtain ⟨Z9, hZ9, hf⟩ := hf
      replace hf := nm_s hf; obtain ⟨S10, hS10, hf⟩ := hf
      have hm := zX0_image_b32 hf
      exact ⟨by omega, by omega⟩
    · skip
      have hm := zX0_image_b37 hf
      exact ⟨by omega, by omega⟩
  · replace hf := if_t hf c3
    replace hf := tg_s hf; obtain ⟨ht14, hf⟩ := hf
    replace hf := b2s hf; obtain ⟨r11, I12, hk_13, hf⟩ := hf
    cases hf
    exact ⟨Nat.le_refl _, Nat.le_refl _⟩
set_option maxHeartbeats 400000 in
set_option maxRecDepth 100000 in
theorem wX0_image_e {nf : Nat} {kc ks : Nat} {cells slots : Nat} {p : Program} {l : Launch} {e : Env} {s : State} {m : MethodId} {args : Array Value} {below : List Frame} {meth : Method} {c : Code} {D : va_G} {dA : Nat → ClassId} {s0 : Nat} {T : xT} {N : xT} {Z : Nat} {S : Nat} {I : xI} {L : xL} {R : xR} {H : Heap} {locs : List Loc} {ls : Array Slot} {x0 : Nat} {x1 : Int32} {ro : Int32} {To : xT} {No : xT} {Zo : Nat} {So : Nat} {Io : xI} {Ro : xR} (X : Cx D dA s0 p m c cX0_image 2 s args RX0 meth) (hr : meth.sig.returnType = (some .int)) (hf : fX0_image nf T N Z S I R x0 x1 = some (ro, To, No, Zo, So, Io, Ro)) (V : Iv D dA s0 s T N Z I L R H locs) (hl : lv_has ls 2 [(0, .ref x0), (1, .int x1)]) (hB : cells + (Zo - Z) ≤ kc ∧ slots + (So - S) ≤ ks) : W p l e { frames := 6, cells := kc, slots := ks, locals := 173 } s m args below meth c H locs cells slots (MQ below (xQ D dA s0 (some (.int ro)) To No Zo Io L Ro) args s kc ks (fun q => s0 ≤ q)) (F0 m 0 ls []) := by
  have hx := X.1.1
  have hb := X.1.2.1
  unfold fX0_image at hf
  refine lv_iload_n (pc := 0) hx hb dX0_image_0 rfl (lv_at hl 1 rfl) ?_
  refine lv_iconst (pc := 1) (v := (ii 0)) hx hb dX0_image_1 (by decide) ?_
  refine lv_iconst (pc := 2) (v := (ii 1)) hx hb dX0_image_2 (by decide) ?_
  replace hf := bs hf; obtain ⟨r1, hk_2, hf⟩ := hf
  refine x_callS0 (pc := 3) (As := [.int x1, .int (ii 0), .int (ii 1)]) (rest := []) X V (mX0_in l D dA s0 hk_2) q449 q450 q119 q451 hsX0_in ⟨Nat.le_of_ble_eq_true rfl, Nat.le_of_ble_eq_true rfl⟩ rfl hl.1 rfl (Nat.le_of_ble_eq_true rfl) dX0_image_3 ⟨by show cells ≤ kc; omega, by show slots ≤ ks; omega⟩ (fun H locs V => W.eq (g2 := F0 m 6 ls [.int r1]) rfl ?_)
  refine lv_if_ne (pc := 6) (tgt := 15) hx hb dX0_image_6 (by decide) (fun c3 => ?_) (fun c3 => ?_)
  · replace hf := if_f hf c3
    refine lv_aload_n (pc := 15) hx hb dX0_image_15 rfl (lv_at hl 0 rfl) ?_
    replace hf := tg_s hf; obtain ⟨ht4, hf⟩ := hf
    replace hf := bs hf; obtain ⟨a5, ha5, hf⟩ := hf
    refine x_get (pc := 16) X V okX0 ht4 3 (by decide) q363 (v := va_rf (R x0 3)) rfl dX0_image_16 ?_
    refine x_topr ha5 ?_
    refine lv_iload_n (pc := 19) hx hb dX0_image_19 rfl (lv_at hl 1 rfl) ?_
    replace hf := rA_s hf; obtain ⟨j6, hjj6, htj6, hij6, hf⟩ := hf
    refine x_aald (pc := 20) X V (k := 5) rfl (by decide) htj6 hij6 hjj6 dX0_image_20 ?_
    replace hf := oc_s hf; rcases hf with ⟨ha7, hf⟩ | ⟨a7, ha7, hf⟩
    · refine x_topn ha7 ?_
      refine lv_ifnonnullN (pc := 21) hx hb dX0_image_21 ?_
      refine lv_aload_n (pc := 24) hx hb dX0_image_24 rfl (lv_at hl 0 rfl) ?_
      refine x_get (pc := 25) X V okX0 ht4 3 (by decide) q363 (v := va_rf (R x0 3)) rfl dX0_image_25 ?_
      refine x_topr ha5 ?_
      refine lv_iload_n (pc := 28) hx hb dX0_image_28 rfl (lv_at hl 1 rfl) ?_
      replace hf := nm_s hf; obtain ⟨T8, hT8, hf⟩ := hf
      replace hf := nm_s hf; obtain ⟨Z9, hZ9, hf⟩ := hf
      replace hf := nm_s hf; obtain ⟨S10, hS10, hf⟩ := hf
      have hm := zX0_image_b32 hf
      refine x_new (pc := 29) X V okX1 hT8 hZ9 q163 q164 q120 (by show _ ≤ kc; omega) (by show _ ≤ ks; omega) dX0_image_29 (fun H V => ?_)
      exact wX0_image_b32 X hr hf V (lv_sub hl [0, 1] rfl) ⟨by omega, by omega⟩
    · refine x_topr ha7 ?_
      refine lv_ifnonnull (pc := 21) (tgt := 37) hx hb dX0_image_21 (by decide) ?_
      exact wX0_image_b37 X hr hf V (lv_sub hl [0, 1] rfl) ⟨by omega, by omega⟩
  · replace hf := if_t hf c3
    refine lv_aload_n (pc := 9) hx hb dX0_image_9 rfl (lv_at hl 0 rfl) ?_
    refine lv_iconst (pc := 10) (v := (-1 : Int32)) hx hb dX0_image_10 (by decide) ?_
    replace hf := tg_s hf; obtain ⟨ht14, hf⟩ := hf
    replace hf := b2s hf; obtain ⟨r11, I12, hk_13, hf⟩ := hf
    refine x_callV0 (pc := 11) (As := [.int (-1 : Int32)]) (rest := []) X V (mX0_refuse l D dA s0 hk_13) okX0 ht14 q452 q454 qs1 q119 q455 ⟨rfl, hsX0_refuse⟩ ⟨Nat.le_of_ble_eq_true rfl, Nat.le_of_ble_eq_true rfl⟩ rfl hl.1 rfl (Nat.le_of_ble_eq_true rfl) dX0_image_11 ⟨by show cells ≤ kc; omega, by show slots ≤ ks; omega⟩ (fun H locs V => W.eq (g2 := F0 m 14 ls [.int r11]) rfl ?_)
    cases hf
    exact x_iretW (pc := 14) X V hr (by omega) (by omega) dX0_image_14
theorem mX0_image {nf : Nat} (l : Launch) (D : va_G) (dA : Nat → ClassId) (s0 : Nat) {kc ks : Nat} {T : xT} {N : xT} {Z : Nat} {S : Nat} {I : xI} {L : xL} {R : xR} {x0 : Nat} {x1 : Int32} {ro : Int32} {To : xT} {No : xT} {Zo : Nat} {So : Nat} {Io : xI} {Ro : xR} (hZ : Zo - Z ≤ kc) (hS : So - S ≤ ks) (hf : fX0_image nf T N Z S I R x0 x1 = some (ro, To, No, Zo, So, Io, Ro)) : XMet l D dA s0 yX0_image (ws_ yX0_image cX0_image 2 ((some .int))) (6) (173) [.ref x0, .int x1] T N Z I L R (some (.int ro)) To No Zo Io L Ro kc ks :=
  x_start (own := RX0) rfl (by decide) (Nat.le_of_ble_eq_true rfl) (lv := [(0, .ref x0), (1, .int x1)]) rfl (fun p e s m below meth c ls X hr hini V hl => wX0_image_e X hr hf V hl ⟨by omega, by omega⟩)
set_option maxHeartbeats 400000 in
set_option maxRecDepth 100000 in
theorem wX0_settled_e {p : Program} {l : Launch} {e : Env} {s : State} {m : MethodId} {args : Array Value} {below : List Frame} {meth : Method} {c : Code} {D : va_G} {dA : Nat → ClassId} {s0 : Nat} {T : xT} {N : xT} {Z : Nat} {I : xI} {L : xL} {R : xR} {H : Heap} {locs : List Loc} {ls : Array Slot} {x0 : Nat} {x1 : Int32} {ro : Int32} {Io : xI} (X : Cx D dA s0 p m c cX0_settled 2 s args RX0 meth) (hr : meth.sig.returnType = (some .int)) (hf : fX0_settled T I x0 x1 = some (ro, Io)) (V : Iv D dA s0 s T N Z I L R H locs) (hl : lv_has ls 2 [(0, .ref x0), (1, .int x1)]) : W p l e { frames := 1, cells := 0, slots := 0, locals := 21 } s m args below meth c H locs 0 0 (MQ below (xQ D dA s0 (some (.int ro)) T N Z Io L R) args s 0 0 (fun q => s0 ≤ q)) (F0 m 0 ls []) := by
  have hx := X.1.1
  have hb := X.1.2.1
  unfold fX0_settled at hf
  refine lv_aload_n (pc := 0) hx hb dX0_settled_0 rfl (lv_at hl 0 rfl) ?_
  refine lv_iconst (pc := 1) (v := (ii 0)) hx hb dX0_settled_1 (by decide) ?_
  replace hf := tg_s hf; obtain ⟨ht1, hf⟩ := hf
  replace hf := nm_s hf; obtain ⟨I2, hI2, hf⟩ := hf
  refine x_puti (pc := 2) X V okX0 (by decide) ht1 15 (by decide) q375 (Or.inl rfl) hI2 (fun _ _ _ => rfl) rfl rfl dX0_settled_2 (fun H locs V => ?_)
  refine lv_aload_n (pc := 5) hx hb dX0_settled_5 rfl (lv_at hl 0 rfl) ?_
  refine lv_iload_n (pc := 6) hx hb dX0_settled_6 rfl (lv_at hl 1 rfl) ?_
  replace hf := b2s hf; obtain ⟨r3, I4, hk_5, hf⟩ := hf
  refine x_callV0 (pc := 7) (As := [.int x1]) (rest := []) X V (mX0_done l D dA s0 hk_5) okX0 ht1 q542 q544 qs3 q119 q545 ⟨rfl, hsX0_done⟩ ⟨Nat.le_of_ble_eq_true rfl, Nat.le_of_ble_eq_true rfl⟩ rfl hl.1 rfl (Nat.le_of_ble_eq_true rfl) dX0_settled_7 ⟨Nat.zero_le _, Nat.zero_le _⟩ (fun H locs V => W.eq (g2 := F0 m 10 ls [.int r3]) rfl ?_)
  cases hf
  exact x_iret (pc := 10) X V hr dX0_settled_10
theorem mX0_settled (l : Launch) (D : va_G) (dA : Nat → ClassId) (s0 : Nat) {T : xT} {N : xT} {Z : Nat} {I : xI} {L : xL} {R : xR} {x0 : Nat} {x1 : Int32} {ro : Int32} {Io : xI} (hf : fX0_settled T I x0 x1 = some (ro, Io)) : XMet l D dA s0 yX0_settled (ws_ yX0_settled cX0_settled 2 ((some .int))) (1) (21) [.ref x0, .int x1] T N Z I L R (some (.int ro)) T N Z Io L R 0 0 :=
  x_start (own := RX0) rfl (by decide) (Nat.le_of_ble_eq_true rfl) (lv := [(0, .ref x0), (1, .int x1)]) rfl (fun p e s m below meth c ls X hr hini V hl => wX0_settled_e X hr hf V hl)
set_option maxHeartbeats 400000 in
set_option maxRecDepth 100000 in
theorem zX0_back_b44 {nf : Nat} {T : xT} {N : xT} {Z : Nat} {S : Nat} {I : xI} {R : xR}  {x0 : Nat} {ro : Int32} {To : xT} {No : xT} {Zo : Nat} {So : Nat} {Io : xI} {Ro : xR}  (hf : fX0_back_b44 nf T N Z S I R x0 = some (ro, To, No, Zo, So, Io, Ro)) : Z ≤ Zo ∧ S ≤ So := by
  unfold fX0_back_b44 at hf
  replace hf := tg_s hf; obtain ⟨ht4, hf⟩ := hf
  replace hf := b2s hf; obtain ⟨r1, I2, hk_3, hf⟩ := hf
  cases hf
  exact ⟨Nat.le_refl _, Nat.le_refl _⟩
set_option maxHeartbeats 400000 in
set_option maxRecDepth 100000 in
theorem wX0_back_b44 {nf : Nat} {kc ks : Nat} {cells slots : Nat} {p : Program} {l : Launch} {e : Env} {s : State} {m : MethodId} {args : Array Value} {below : List Frame} {meth : Method} {c : Code} {D : va_G} {dA : Nat → ClassId} {s0 : Nat} {T : xT} {N : xT} {Z : Nat} {S : Nat} {I : xI} {L : xL} {R : xR} {H : Heap} {locs : List Loc} {ls : Array Slot}  {x0 : Nat} {ro : Int32} {To : xT} {No : xT} {Zo : Nat} {So : Nat} {Io : xI} {Ro : xR} (X : Cx D dA s0 p m c cX0_back 2 s args RX0 meth) (hr : meth.sig.returnType = (some .int))   (hf : fX0_back_b44 nf T N Z S I R x0 = some (ro, To, No, Zo, So, Io, Ro)) (V : Iv D dA s0 s T N Z I L R H locs) (hl : lv_has ls 2 [(0, .ref x0)]) (hB : cells + (Zo - Z) ≤ kc ∧ slots + (So - S) ≤ ks) : W p l e { frames := 6, cells := kc, slots := ks, locals := 173 } s m args below meth c H locs cells slots (MQ below (xQ D dA s0 (some (.int ro)) To No Zo Io L Ro) args s kc ks (fun q => s0 ≤ q)) (F0 m 44 ls []) := by
  have hx := X.1.1
  have hb := X.1.2.1
  unfold fX0_back_b44 at hf
  refine lv_aload_n (pc := 44) hx hb dX0_back_44 rfl (lv_at hl 0 rfl) ?_
  refine lv_iconst (pc := 45) (v := (ii 0)) hx hb dX0_back_45 (by decide) ?_
  replace hf := tg_s hf; obtain ⟨ht4, hf⟩ := hf
  replace hf := b2s hf; obtain ⟨r1, I2, hk_3, hf⟩ := hf
  refine x_callV0 (pc := 46) (As := [.int (ii 0)]) (rest := []) X V (mX0_settled l D dA s0 hk_3) okX0 ht4 q550 q552 qs4 q119 q553 ⟨rfl, hsX0_settled⟩ ⟨Nat.le_of_ble_eq_true rfl, Nat.le_of_ble_eq_true rfl⟩ rfl hl.1 rfl (Nat.le_of_ble_eq_true rfl) dX0_back_46 ⟨by show cells ≤ kc; omega, by show slots ≤ ks; omega⟩ (fun H locs V => W.eq (g2 := F0 m 49 ls [.int r1]) rfl ?_)
  cases hf
  exact x_iretW (pc := 49) X V hr (by omega) (by omega) dX0_back_49
set_option maxHeartbeats 400000 in
set_option maxRecDepth 100000 in
theorem zX0_back {nf : Nat} {T : xT} {N : xT} {Z : Nat} {S : Nat} {I : xI} {R : xR} {x0 : Nat} {x1 : Int32} {ro : Int32} {To : xT} {No : xT} {Zo : Nat} {So : Nat} {Io : xI} {Ro : xR} (hf : fX0_back nf T N Z S I R x0 x1 = some (ro, To, No, Zo, So, Io, Ro)) : Z ≤ Zo ∧ S ≤ So := by
  unfold fX0_back at hf
  replace hf := bs hf; obtain ⟨r1, hk_2, hf⟩ := hf
  rcases (Decidable.em (r1 = (ii 0))).symm with c3 | c3
  · replace hf := if_f hf c3
    replace hf := tg_s hf; obtain ⟨ht4, hf⟩ := hf
    replace hf := bs hf; obtain ⟨a5, ha5, hf⟩ := hf
    replace hf := rA_s hf; obtain ⟨j6, hjj6, htj6, hij6, hf⟩ := hf
    replace hf := oc_s hf; rcases hf with ⟨ha7, hf⟩ | ⟨a7, ha7, hf⟩
    · skip
      replace hf := b2s hf; obtain ⟨r8, I9, hk_10, hf⟩ := hf
      cases hf
      exact ⟨Nat.le_refl _, Nat.le_refl _⟩
    · skip
      replace hf := bs hf; obtain ⟨a11, ha11, hf⟩ := hf
      replace hf := tg_s hf; obtain ⟨ht19, hf⟩ := hf
      replace hf := b6s hf; obtain ⟨T12, N13, Z14, S15, I16, R17, hk_18, hf⟩ := hf
      have hm_hk_18 := zX1_takes hk_18
      have hm := zX0_back_b44 hf
      exact ⟨by omega, by omega⟩
  · replace hf := if_t hf c3
    replace hf := tg_s hf; obtain ⟨ht23, hf⟩ := hf
    replace hf := b2s hf; obtain ⟨r20, I21, hk_22, hf⟩ := hf
    cases hf
    exact ⟨Nat.le_refl _, Nat.le_refl _⟩
set_option maxHeartbeats 400000 in
set_option maxRecDepth 100000 in
theorem wX0_back_e {nf : Nat} {kc ks : Nat} {cells slots : Nat} {p : Program} {l : Launch} {e : Env} {s : State} {m : MethodId} {args : Array Value} {below : List Frame} {meth : Method} {c : Code} {D : va_G} {dA : Nat → ClassId} {s0 : Nat} {T : xT} {N : xT} {Z : Nat} {S : Nat} {I : xI} {L : xL} {R : xR} {H : Heap} {locs : List Loc} {ls : Array Slot} {x0 : Nat} {x1 : Int32} {ro : Int32} {To : xT} {No : xT} {Zo : Nat} {So : Nat} {Io : xI} {Ro : xR} (X : Cx D dA s0 p m c cX0_back 2 s args RX0 meth) (hr : meth.sig.returnType = (some .int)) (hf : fX0_back nf T N Z S I R x0 x1 = some (ro, To, No, Zo, So, Io, Ro)) (V : Iv D dA s0 s T N Z I L R H locs) (hl : lv_has ls 2 [(0, .ref x0), (1, .int x1)]) (hB : cells + (Zo - Z) ≤ kc ∧ slots + (So - S) ≤ ks) : W p l e { frames := 6, cells := kc, slots := ks, locals := 173 } s m args below meth c H locs cells slots (MQ below (xQ D dA s0 (some (.int ro)) To No Zo Io L Ro) args s kc ks (fun q => s0 ≤ q)) (F0 m 0 ls []) := by
  have hx := X.1.1
  have hb := X.1.2.1
  unfold fX0_back at hf
  refine lv_iload_n (pc := 0) hx hb dX0_back_0 rfl (lv_at hl 1 rfl) ?_
  refine lv_iconst (pc := 1) (v := (ii 0)) hx hb dX0_back_1 (by decide) ?_
  refine lv_iconst (pc := 2) (v := (ii 1)) hx hb dX0_back_2 (by decide) ?_
  replace hf := bs hf; obtain ⟨r1, hk_2, hf⟩ := hf
  refine x_callS0 (pc := 3) (As := [.int x1, .int (ii 0), .int (ii 1)]) (rest := []) X V (mX0_in l D dA s0 hk_2) q449 q450 q119 q451 hsX0_in ⟨Nat.le_of_ble_eq_true rfl, Nat.le_of_ble_eq_true rfl⟩ rfl hl.1 rfl (Nat.le_of_ble_eq_true rfl) dX0_back_3 ⟨by show cells ≤ kc; omega, by show slots ≤ ks; omega⟩ (fun H locs V => W.eq (g2 := F0 m 6 ls [.int r1]) rfl ?_)
  refine lv_if_ne (pc := 6) (tgt := 15) hx hb dX0_back_6 (by decide) (fun c3 => ?_) (fun c3 => ?_)
  · replace hf := if_f hf c3
    refine lv_aload_n (pc := 15) hx hb dX0_back_15 rfl (lv_at hl 0 rfl) ?_
    replace hf := tg_s hf; obtain ⟨ht4, hf⟩ := hf
    replace hf := bs hf; obtain ⟨a5, ha5, hf⟩ := hf
    refine x_get (pc := 16) X V okX0 ht4 3 (by decide) q363 (v := va_rf (R x0 3)) rfl dX0_back_16 ?_
    refine x_topr ha5 ?_
    refine lv_iload_n (pc := 19) hx hb dX0_back_19 rfl (lv_at hl 1 rfl) ?_
    replace hf := rA_s hf; obtain ⟨j6, hjj6, htj6, hij6, hf⟩ := hf
    refine x_aald (pc := 20) X V (k := 5) rfl (by decide) htj6 hij6 hjj6 dX0_back_20 ?_
    replace hf := oc_s hf; rcases hf with ⟨ha7, hf⟩ | ⟨a7, ha7, hf⟩
    · refine x_topn ha7 ?_
      refine lv_ifnonnullN (pc := 21) hx hb dX0_back_21 ?_
      refine lv_aload_n (pc := 24) hx hb dX0_back_24 rfl (lv_at hl 0 rfl) ?_
      refine lv_bipush (pc := 25) (v := (-2 : Int32)) hx hb dX0_back_25 (by decide) ?_
      replace hf := b2s hf; obtain ⟨r8, I9, hk_10, hf⟩ := hf
      refine x_callV0 (pc := 27) (As := [.int (-2 : Int32)]) (rest := []) X V (mX0_refuse l D dA s0 hk_10) okX0 ht4 q452 q454 qs1 q119 q455 ⟨rfl, hsX0_refuse⟩ ⟨Nat.le_of_ble_eq_true rfl, Nat.le_of_ble_eq_true rfl⟩ rfl hl.1 rfl (Nat.le_of_ble_eq_true rfl) dX0_back_27 ⟨by show cells ≤ kc; omega, by show slots ≤ ks; omega⟩ (fun H locs V => W.eq (g2 := F0 m 30 ls [.int r8]) rfl ?_)
      cases hf
      exact x_iretW (pc := 30) X V hr (by omega) (by omega) dX0_back_30
    · refine x_topr ha7 ?_
      refine lv_ifnonnull (pc := 21) (tgt := 31) hx hb dX0_back_21 (by decide) ?_
      refine lv_aload_n (pc := 31) hx hb dX0_back_31 rfl (lv_at hl 0 rfl) ?_
      replace hf := bs hf; obtain ⟨a11, ha11, hf⟩ := hf
      refine x_get (pc := 32) X V okX0 ht4 2 (by decide) q362 (v := va_rf (R x0 2)) rfl dX0_back_32 ?_
      refine x_topr ha11 ?_
      refine lv_aload_n (pc := 35) hx hb dX0_back_35 rfl (lv_at hl 0 rfl) ?_
      refine x_get (pc := 36) X V okX0 ht4 3 (by decide) q363 (v := va_rf (R x0 3)) rfl dX0_back_36 ?_
      refine x_topr ha5 ?_
      refine lv_iload_n (pc := 39) hx hb dX0_back_39 rfl (lv_at hl 1 rfl) ?_
      refine x_aald (pc := 40) X V (k := 5) rfl (by decide) htj6 hij6 hjj6 dX0_back_40 ?_
      refine x_topr ha7 ?_
      replace hf := tg_s hf; obtain ⟨ht19, hf⟩ := hf
      replace hf := b6s hf; obtain ⟨T12, N13, Z14, S15, I16, R17, hk_18, hf⟩ := hf
      have hm_hk_18 := zX1_takes hk_18
      have hm := zX0_back_b44 hf
      refine x_callV (pc := 41) (As := [.ref a7]) (rest := []) X V (mX1_takes l D dA s0 (kc := Z14 - Z) (ks := S15 - S) (Nat.le_refl _) (Nat.le_refl _) hk_18) okX1 ht19 q456 q457 q458 q120 q459 ⟨rfl, hsX1_takes⟩ ⟨Nat.le_of_ble_eq_true rfl, Nat.le_of_ble_eq_true rfl⟩ rfl hl.1 rfl (Nat.le_of_ble_eq_true rfl) dX0_back_41 ⟨by show _ ≤ kc; omega, by show _ ≤ ks; omega⟩ (fun H locs V => W.eq (g2 := F0 m 44 ls []) rfl ?_)
      exact wX0_back_b44 X hr hf V (lv_sub hl [0] rfl) ⟨by omega, by omega⟩
  · replace hf := if_t hf c3
    refine lv_aload_n (pc := 9) hx hb dX0_back_9 rfl (lv_at hl 0 rfl) ?_
    refine lv_iconst (pc := 10) (v := (-1 : Int32)) hx hb dX0_back_10 (by decide) ?_
    replace hf := tg_s hf; obtain ⟨ht23, hf⟩ := hf
    replace hf := b2s hf; obtain ⟨r20, I21, hk_22, hf⟩ := hf
    refine x_callV0 (pc := 11) (As := [.int (-1 : Int32)]) (rest := []) X V (mX0_refuse l D dA s0 hk_22) okX0 ht23 q452 q454 qs1 q119 q455 ⟨rfl, hsX0_refuse⟩ ⟨Nat.le_of_ble_eq_true rfl, Nat.le_of_ble_eq_true rfl⟩ rfl hl.1 rfl (Nat.le_of_ble_eq_true rfl) dX0_back_11 ⟨by show cells ≤ kc; omega, by show slots ≤ ks; omega⟩ (fun H locs V => W.eq (g2 := F0 m 14 ls [.int r20]) rfl ?_)
    cases hf
    exact x_iretW (pc := 14) X V hr (by omega) (by omega) dX0_back_14
theorem mX0_back {nf : Nat} (l : Launch) (D : va_G) (dA : Nat → ClassId) (s0 : Nat) {kc ks : Nat} {T : xT} {N : xT} {Z : Nat} {S : Nat} {I : xI} {L : xL} {R : xR} {x0 : Nat} {x1 : Int32} {ro : Int32} {To : xT} {No : xT} {Zo : Nat} {So : Nat} {Io : xI} {Ro : xR} (hZ : Zo - Z ≤ kc) (hS : So - S ≤ ks) (hf : fX0_back nf T N Z S I R x0 x1 = some (ro, To, No, Zo, So, Io, Ro)) : XMet l D dA s0 yX0_back (ws_ yX0_back cX0_back 2 ((some .int))) (6) (173) [.ref x0, .int x1] T N Z I L R (some (.int ro)) To No Zo Io L Ro kc ks :=
  x_start (own := RX0) rfl (by decide) (Nat.le_of_ble_eq_true rfl) (lv := [(0, .ref x0), (1, .int x1)]) rfl (fun p e s m below meth c ls X hr hini V hl => wX0_back_e X hr hf V hl ⟨by omega, by omega⟩)
