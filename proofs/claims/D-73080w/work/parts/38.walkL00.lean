set_option maxHeartbeats 400000 in
set_option maxRecDepth 100000 in
theorem zL_law_b1270 {nf : Nat} {Ln : Nat} {xs : Nat → Int32} {dA : Nat → ClassId} {T : xT} {N : xT} {Z : Nat} {S : Nat} {I : xI} {L : xL} {R : xR} {kk18 : xT → xT → Nat → Nat → xI → xL → xR → Nat → Nat → Int32 → Option (Int32 × xT × xT × Nat × Nat × xI × xL × xR)} {x1 : Nat} {x2 : Nat} {x3 : Int32} {z0 : Int32} {ro : Int32} {To : xT} {No : xT} {Zo : Nat} {So : Nat} {Io : xI} {Lo : xL} {Ro : xR} (hm18 : ∀ {T : xT} {N : xT} {Z : Nat} {S : Nat} {I : xI} {L : xL} {R : xR} {x1 : Nat} {x2 : Nat} {x3 : Int32}, kk18 T N Z S I L R x1 x2 x3 = some (ro, To, No, Zo, So, Io, Lo, Ro) → Z ≤ Zo ∧ S ≤ So) (hf : fL_law_b1270 nf xs Ln kk18 (sv dA) T N Z S I L R x1 x2 x3 z0 = some (ro, To, No, Zo, So, Io, Lo, Ro)) : Z ≤ Zo ∧ S ≤ So := by
  unfold fL_law_b1270 at hf
  replace hf := chk_s hf; obtain ⟨hq1, hf⟩ := hf
  replace hf := tg_s hf; obtain ⟨ht5, hf⟩ := hf
  replace hf := b2s hf; obtain ⟨r2, I3, hk_4, hf⟩ := hf
  rcases (Decidable.em (z0 = r2)) with c6 | c6
  · replace hf := if_t hf c6
    replace hf := nm_s hf; obtain ⟨u7, hu7, hf⟩ := hf
    have hm := hm18 hf
    exact ⟨by omega, by omega⟩
  · replace hf := if_f hf c6
    cases hf
    exact ⟨Nat.le_refl _, Nat.le_refl _⟩
set_option maxHeartbeats 400000 in
set_option maxRecDepth 100000 in
theorem wL_law_b1270 {nf : Nat} {sb Ln : Nat} {xs : Nat → Int32} {kc ks : Nat} {cells slots : Nat} {p : Program} {l : Launch} {e : Env} {s : State} {m : MethodId} {args : Array Value} {below : List Frame} {meth : Method} {c : Code} {D : va_G} {dA : Nat → ClassId} {s0 : Nat} {T : xT} {N : xT} {Z : Nat} {S : Nat} {I : xI} {L : xL} {R : xR} {H : Heap} {locs : List Loc} {ls : Array Slot} {kk18 : xT → xT → Nat → Nat → xI → xL → xR → Nat → Nat → Int32 → Option (Int32 × xT × xT × Nat × Nat × xI × xL × xR)} {x1 : Nat} {x2 : Nat} {x3 : Int32} {z0 : Int32} {ro : Int32} {To : xT} {No : xT} {Zo : Nat} {So : Nat} {Io : xI} {Lo : xL} {Ro : xR} (X : Cx D dA s0 p m c cL_law 4 s args RL meth) (hr : meth.sig.returnType = some .boolean) (hXs : va_X sb Ln xs s s.heap ∧ sb < s0 ∧ s0 = s.heap.size) (hk18 : ∀ {T : xT} {N : xT} {Z : Nat} {S : Nat} {I : xI} {L : xL} {R : xR} {x1 : Nat} {x2 : Nat} {x3 : Int32} {H : Heap} {locs : List Loc} {ls : Array Slot} {cells slots : Nat} , kk18 T N Z S I L R x1 x2 x3 = some (ro, To, No, Zo, So, Io, Lo, Ro) → Iv D dA s0 s T N Z I L R H locs → lv_has ls 4 [(0, .ref sb), (1, .ref x1), (2, .ref x2), (3, .int x3)] → cells + (Zo - Z) ≤ kc ∧ slots + (So - S) ≤ ks → W p l e { frames := 8192, cells := kc, slots := ks, locals := 100000 } s m args below meth c H locs cells slots (MQ below (xQ D dA s0 (some (.int ro)) To No Zo Io Lo Ro) args s kc ks (fun q => s0 ≤ q)) (F0 m 18 ls [])) (hm18 : ∀ {T : xT} {N : xT} {Z : Nat} {S : Nat} {I : xI} {L : xL} {R : xR} {x1 : Nat} {x2 : Nat} {x3 : Int32}, kk18 T N Z S I L R x1 x2 x3 = some (ro, To, No, Zo, So, Io, Lo, Ro) → Z ≤ Zo ∧ S ≤ So) (hf : fL_law_b1270 nf xs Ln kk18 (sv dA) T N Z S I L R x1 x2 x3 z0 = some (ro, To, No, Zo, So, Io, Lo, Ro)) (V : Iv D dA s0 s T N Z I L R H locs) (hl : lv_has ls 4 [(0, .ref sb), (1, .ref x1), (2, .ref x2), (3, .int x3)]) (hB : cells + (Zo - Z) ≤ kc ∧ slots + (So - S) ≤ ks) : W p l e { frames := 8192, cells := kc, slots := ks, locals := 100000 } s m args below meth c H locs cells slots (MQ below (xQ D dA s0 (some (.int ro)) To No Zo Io Lo Ro) args s kc ks (fun q => s0 ≤ q)) (F0 m 1270 ls [.int z0]) := by
  have hx := X.1.1
  have hb := X.1.2.1
  unfold fL_law_b1270 at hf
  refine lv_aload_n (pc := 1270) hx hb dL_law_1270 rfl (lv_at hl 2 rfl) ?_
  refine lv_aload_n (pc := 1271) hx hb dL_law_1271 rfl (lv_at hl 0 rfl) ?_
  refine lv_iload_n (pc := 1272) hx hb dL_law_1272 rfl (lv_at hl 3 rfl) ?_
  refine lv_iconst (pc := 1273) (v := (ii 1)) hx hb dL_law_1273 (by decide) ?_
  refine lv_iadd (pc := 1274) hx hb dL_law_1274 ?_
  replace hf := chk_s hf; obtain ⟨hq1, hf⟩ := hf
  refine x_sld (pc := 1275) X V hXs hq1 dL_law_1275 ?_
  replace hf := tg_s hf; obtain ⟨ht5, hf⟩ := hf
  replace hf := b2s hf; obtain ⟨r2, I3, hk_4, hf⟩ := hf
  refine x_callV0 (pc := 1276) (As := [.int (xs ((x3 + (ii 1))).toNatClampNeg)]) (rest := [.int z0]) X V (mX5_back l D dA s0 hk_4) okX5 ht5 q1716 q1717 q1718 q129 q1719 ⟨rfl, hsX5_back⟩ ⟨Nat.le_of_ble_eq_true rfl, Nat.le_of_ble_eq_true rfl⟩ rfl hl.1 rfl (Nat.le_of_ble_eq_true rfl) dL_law_1276 ⟨by show cells ≤ kc; omega, by show slots ≤ ks; omega⟩ (fun H locs V => W.eq (g2 := F0 m 1279 ls [.int r2, .int z0]) rfl ?_)
  refine lv_icmp_eq (pc := 1279) (tgt := 1320) hx hb dL_law_1279 (by decide) (fun c6 => ?_) (fun c6 => ?_)
  · replace hf := if_t hf c6
    replace hf := nm_s hf; obtain ⟨u7, hu7, hf⟩ := hf
    refine lv_iinc (pc := 1320) (v := u7) (lv' := [(3, .int u7), (0, .ref sb), (1, .ref x1), (2, .ref x2)]) hx hb dL_law_1320 hl (k := 3) rfl (by rw [hu7]; rfl) (by decide) rfl (fun ls hl => ?_)
    refine lv_goto (pc := 1323) (tgt := 18) hx hb dL_law_1323 (by decide) ?_
    exact hk18 hf V (lv_sub hl [1, 2, 3, 0] rfl) ⟨by omega, by omega⟩
  · replace hf := if_f hf c6
    refine lv_iconst (pc := 1282) (v := (ii 0)) hx hb dL_law_1282 (by decide) ?_
    cases hf
    exact x_zretW (pc := 1283) X V hr (by omega) (by omega) (by decide) dL_law_1283
set_option maxHeartbeats 400000 in
set_option maxRecDepth 100000 in
theorem zL_law_b1247 {nf : Nat} {Ln : Nat} {xs : Nat → Int32} {dA : Nat → ClassId} {T : xT} {N : xT} {Z : Nat} {S : Nat} {I : xI} {L : xL} {R : xR} {kk18 : xT → xT → Nat → Nat → xI → xL → xR → Nat → Nat → Int32 → Option (Int32 × xT × xT × Nat × Nat × xI × xL × xR)} {x1 : Nat} {x2 : Nat} {x3 : Int32} {z0 : Int32} {ro : Int32} {To : xT} {No : xT} {Zo : Nat} {So : Nat} {Io : xI} {Lo : xL} {Ro : xR} (hm18 : ∀ {T : xT} {N : xT} {Z : Nat} {S : Nat} {I : xI} {L : xL} {R : xR} {x1 : Nat} {x2 : Nat} {x3 : Int32}, kk18 T N Z S I L R x1 x2 x3 = some (ro, To, No, Zo, So, Io, Lo, Ro) → Z ≤ Zo ∧ S ≤ So) (hf : fL_law_b1247 nf xs Ln kk18 (sv dA) T N Z S I L R x1 x2 x3 z0 = some (ro, To, No, Zo, So, Io, Lo, Ro)) : Z ≤ Zo ∧ S ≤ So := by
  unfold fL_law_b1247 at hf
  replace hf := chk_s hf; obtain ⟨hq1, hf⟩ := hf
  replace hf := tg_s hf; obtain ⟨ht5, hf⟩ := hf
  replace hf := b2s hf; obtain ⟨r2, I3, hk_4, hf⟩ := hf
  rcases (Decidable.em (z0 = r2)) with c6 | c6
  · replace hf := if_t hf c6
    replace hf := nm_s hf; obtain ⟨u7, hu7, hf⟩ := hf
    have hm := hm18 hf
    exact ⟨by omega, by omega⟩
  · replace hf := if_f hf c6
    cases hf
    exact ⟨Nat.le_refl _, Nat.le_refl _⟩
set_option maxHeartbeats 400000 in
set_option maxRecDepth 100000 in
theorem wL_law_b1247 {nf : Nat} {sb Ln : Nat} {xs : Nat → Int32} {kc ks : Nat} {cells slots : Nat} {p : Program} {l : Launch} {e : Env} {s : State} {m : MethodId} {args : Array Value} {below : List Frame} {meth : Method} {c : Code} {D : va_G} {dA : Nat → ClassId} {s0 : Nat} {T : xT} {N : xT} {Z : Nat} {S : Nat} {I : xI} {L : xL} {R : xR} {H : Heap} {locs : List Loc} {ls : Array Slot} {kk18 : xT → xT → Nat → Nat → xI → xL → xR → Nat → Nat → Int32 → Option (Int32 × xT × xT × Nat × Nat × xI × xL × xR)} {x1 : Nat} {x2 : Nat} {x3 : Int32} {z0 : Int32} {ro : Int32} {To : xT} {No : xT} {Zo : Nat} {So : Nat} {Io : xI} {Lo : xL} {Ro : xR} (X : Cx D dA s0 p m c cL_law 4 s args RL meth) (hr : meth.sig.returnType = some .boolean) (hXs : va_X sb Ln xs s s.heap ∧ sb < s0 ∧ s0 = s.heap.size) (hk18 : ∀ {T : xT} {N : xT} {Z : Nat} {S : Nat} {I : xI} {L : xL} {R : xR} {x1 : Nat} {x2 : Nat} {x3 : Int32} {H : Heap} {locs : List Loc} {ls : Array Slot} {cells slots : Nat} , kk18 T N Z S I L R x1 x2 x3 = some (ro, To, No, Zo, So, Io, Lo, Ro) → Iv D dA s0 s T N Z I L R H locs → lv_has ls 4 [(0, .ref sb), (1, .ref x1), (2, .ref x2), (3, .int x3)] → cells + (Zo - Z) ≤ kc ∧ slots + (So - S) ≤ ks → W p l e { frames := 8192, cells := kc, slots := ks, locals := 100000 } s m args below meth c H locs cells slots (MQ below (xQ D dA s0 (some (.int ro)) To No Zo Io Lo Ro) args s kc ks (fun q => s0 ≤ q)) (F0 m 18 ls [])) (hm18 : ∀ {T : xT} {N : xT} {Z : Nat} {S : Nat} {I : xI} {L : xL} {R : xR} {x1 : Nat} {x2 : Nat} {x3 : Int32}, kk18 T N Z S I L R x1 x2 x3 = some (ro, To, No, Zo, So, Io, Lo, Ro) → Z ≤ Zo ∧ S ≤ So) (hf : fL_law_b1247 nf xs Ln kk18 (sv dA) T N Z S I L R x1 x2 x3 z0 = some (ro, To, No, Zo, So, Io, Lo, Ro)) (V : Iv D dA s0 s T N Z I L R H locs) (hl : lv_has ls 4 [(0, .ref sb), (1, .ref x1), (2, .ref x2), (3, .int x3)]) (hB : cells + (Zo - Z) ≤ kc ∧ slots + (So - S) ≤ ks) : W p l e { frames := 8192, cells := kc, slots := ks, locals := 100000 } s m args below meth c H locs cells slots (MQ below (xQ D dA s0 (some (.int ro)) To No Zo Io Lo Ro) args s kc ks (fun q => s0 ≤ q)) (F0 m 1247 ls [.int z0]) := by
  have hx := X.1.1
  have hb := X.1.2.1
  unfold fL_law_b1247 at hf
  refine lv_aload_n (pc := 1247) hx hb dL_law_1247 rfl (lv_at hl 2 rfl) ?_
  refine lv_aload_n (pc := 1248) hx hb dL_law_1248 rfl (lv_at hl 0 rfl) ?_
  refine lv_iload_n (pc := 1249) hx hb dL_law_1249 rfl (lv_at hl 3 rfl) ?_
  refine lv_iconst (pc := 1250) (v := (ii 1)) hx hb dL_law_1250 (by decide) ?_
  refine lv_iadd (pc := 1251) hx hb dL_law_1251 ?_
  replace hf := chk_s hf; obtain ⟨hq1, hf⟩ := hf
  refine x_sld (pc := 1252) X V hXs hq1 dL_law_1252 ?_
  replace hf := tg_s hf; obtain ⟨ht5, hf⟩ := hf
  replace hf := b2s hf; obtain ⟨r2, I3, hk_4, hf⟩ := hf
  refine x_callV0 (pc := 1253) (As := [.int (xs ((x3 + (ii 1))).toNatClampNeg)]) (rest := [.int z0]) X V (mX5_image l D dA s0 hk_4) okX5 ht5 q1709 q1710 q1711 q129 q1712 ⟨rfl, hsX5_image⟩ ⟨Nat.le_of_ble_eq_true rfl, Nat.le_of_ble_eq_true rfl⟩ rfl hl.1 rfl (Nat.le_of_ble_eq_true rfl) dL_law_1253 ⟨by show cells ≤ kc; omega, by show slots ≤ ks; omega⟩ (fun H locs V => W.eq (g2 := F0 m 1256 ls [.int r2, .int z0]) rfl ?_)
  refine lv_icmp_eq (pc := 1256) (tgt := 1320) hx hb dL_law_1256 (by decide) (fun c6 => ?_) (fun c6 => ?_)
  · replace hf := if_t hf c6
    replace hf := nm_s hf; obtain ⟨u7, hu7, hf⟩ := hf
    refine lv_iinc (pc := 1320) (v := u7) (lv' := [(3, .int u7), (0, .ref sb), (1, .ref x1), (2, .ref x2)]) hx hb dL_law_1320 hl (k := 3) rfl (by rw [hu7]; rfl) (by decide) rfl (fun ls hl => ?_)
    refine lv_goto (pc := 1323) (tgt := 18) hx hb dL_law_1323 (by decide) ?_
    exact hk18 hf V (lv_sub hl [1, 2, 3, 0] rfl) ⟨by omega, by omega⟩
  · replace hf := if_f hf c6
    refine lv_iconst (pc := 1259) (v := (ii 0)) hx hb dL_law_1259 (by decide) ?_
    cases hf
    exact x_zretW (pc := 1260) X V hr (by omega) (by omega) (by decide) dL_law_1260
set_option maxHeartbeats 400000 in
set_option maxRecDepth 100000 in
theorem zL_law_b577 {nf : Nat} {Ln : Nat} {xs : Nat → Int32} {dA : Nat → ClassId} {T : xT} {N : xT} {Z : Nat} {S : Nat} {I : xI} {L : xL} {R : xR} {kk18 : xT → xT → Nat → Nat → xI → xL → xR → Nat → Nat → Int32 → Option (Int32 × xT × xT × Nat × Nat × xI × xL × xR)} {x1 : Nat} {x2 : Nat} {x3 : Int32} {z0 : Int32} {ro : Int32} {To : xT} {No : xT} {Zo : Nat} {So : Nat} {Io : xI} {Lo : xL} {Ro : xR} (hm18 : ∀ {T : xT} {N : xT} {Z : Nat} {S : Nat} {I : xI} {L : xL} {R : xR} {x1 : Nat} {x2 : Nat} {x3 : Int32}, kk18 T N Z S I L R x1 x2 x3 = some (ro, To, No, Zo, So, Io, Lo, Ro) → Z ≤ Zo ∧ S ≤ So) (hf : fL_law_b577 nf xs Ln kk18 (sv dA) T N Z S I L R x1 x2 x3 z0 = some (ro, To, No, Zo, So, Io, Lo, Ro)) : Z ≤ Zo ∧ S ≤ So := by
  unfold fL_law_b577 at hf
  replace hf := tg_s hf; obtain ⟨ht5, hf⟩ := hf
  replace hf := b3s hf; obtain ⟨r1, I2, L3, hk_4, hf⟩ := hf
  rcases (Decidable.em (z0 = r1)) with c6 | c6
  · replace hf := if_t hf c6
    replace hf := nm_s hf; obtain ⟨u7, hu7, hf⟩ := hf
    have hm := hm18 hf
    exact ⟨by omega, by omega⟩
  · replace hf := if_f hf c6
    cases hf
    exact ⟨Nat.le_refl _, Nat.le_refl _⟩
set_option maxHeartbeats 400000 in
set_option maxRecDepth 100000 in
theorem wL_law_b577 {nf : Nat} {sb Ln : Nat} {xs : Nat → Int32} {kc ks : Nat} {cells slots : Nat} {p : Program} {l : Launch} {e : Env} {s : State} {m : MethodId} {args : Array Value} {below : List Frame} {meth : Method} {c : Code} {D : va_G} {dA : Nat → ClassId} {s0 : Nat} {T : xT} {N : xT} {Z : Nat} {S : Nat} {I : xI} {L : xL} {R : xR} {H : Heap} {locs : List Loc} {ls : Array Slot} {kk18 : xT → xT → Nat → Nat → xI → xL → xR → Nat → Nat → Int32 → Option (Int32 × xT × xT × Nat × Nat × xI × xL × xR)} {x1 : Nat} {x2 : Nat} {x3 : Int32} {z0 : Int32} {ro : Int32} {To : xT} {No : xT} {Zo : Nat} {So : Nat} {Io : xI} {Lo : xL} {Ro : xR} (X : Cx D dA s0 p m c cL_law 4 s args RL meth) (hr : meth.sig.returnType = some .boolean) (hXs : va_X sb Ln xs s s.heap ∧ sb < s0 ∧ s0 = s.heap.size) (hk18 : ∀ {T : xT} {N : xT} {Z : Nat} {S : Nat} {I : xI} {L : xL} {R : xR} {x1 : Nat} {x2 : Nat} {x3 : Int32} {H : Heap} {locs : List Loc} {ls : Array Slot} {cells slots : Nat} , kk18 T N Z S I L R x1 x2 x3 = some (ro, To, No, Zo, So, Io, Lo, Ro) → Iv D dA s0 s T N Z I L R H locs → lv_has ls 4 [(0, .ref sb), (1, .ref x1), (2, .ref x2), (3, .int x3)] → cells + (Zo - Z) ≤ kc ∧ slots + (So - S) ≤ ks → W p l e { frames := 8192, cells := kc, slots := ks, locals := 100000 } s m args below meth c H locs cells slots (MQ below (xQ D dA s0 (some (.int ro)) To No Zo Io Lo Ro) args s kc ks (fun q => s0 ≤ q)) (F0 m 18 ls [])) (hm18 : ∀ {T : xT} {N : xT} {Z : Nat} {S : Nat} {I : xI} {L : xL} {R : xR} {x1 : Nat} {x2 : Nat} {x3 : Int32}, kk18 T N Z S I L R x1 x2 x3 = some (ro, To, No, Zo, So, Io, Lo, Ro) → Z ≤ Zo ∧ S ≤ So) (hf : fL_law_b577 nf xs Ln kk18 (sv dA) T N Z S I L R x1 x2 x3 z0 = some (ro, To, No, Zo, So, Io, Lo, Ro)) (V : Iv D dA s0 s T N Z I L R H locs) (hl : lv_has ls 4 [(0, .ref sb), (1, .ref x1), (2, .ref x2), (3, .int x3)]) (hB : cells + (Zo - Z) ≤ kc ∧ slots + (So - S) ≤ ks) : W p l e { frames := 8192, cells := kc, slots := ks, locals := 100000 } s m args below meth c H locs cells slots (MQ below (xQ D dA s0 (some (.int ro)) To No Zo Io Lo Ro) args s kc ks (fun q => s0 ≤ q)) (F0 m 577 ls [.int z0]) := by
  have hx := X.1.1
  have hb := X.1.2.1
  unfold fL_law_b577 at hf
  refine lv_aload_n (pc := 577) hx hb dL_law_577 rfl (lv_at hl 2 rfl) ?_
  replace hf := tg_s hf; obtain ⟨ht5, hf⟩ := hf
  replace hf := b3s hf; obtain ⟨r1, I2, L3, hk_4, hf⟩ := hf
  refine x_callV0 (pc := 578) (As := []) (rest := [.int z0]) X V (mX5_orders l D dA s0 hk_4) okX5 ht5 q2158 q2159 q2160 q129 q2161 ⟨rfl, hsX5_orders⟩ ⟨Nat.le_of_ble_eq_true rfl, Nat.le_of_ble_eq_true rfl⟩ rfl hl.1 rfl (Nat.le_of_ble_eq_true rfl) dL_law_578 ⟨by show cells ≤ kc; omega, by show slots ≤ ks; omega⟩ (fun H locs V => W.eq (g2 := F0 m 581 ls [.int r1, .int z0]) rfl ?_)
  refine lv_icmp_eq (pc := 581) (tgt := 1320) hx hb dL_law_581 (by decide) (fun c6 => ?_) (fun c6 => ?_)
  · replace hf := if_t hf c6
    replace hf := nm_s hf; obtain ⟨u7, hu7, hf⟩ := hf
    refine lv_iinc (pc := 1320) (v := u7) (lv' := [(3, .int u7), (0, .ref sb), (1, .ref x1), (2, .ref x2)]) hx hb dL_law_1320 hl (k := 3) rfl (by rw [hu7]; rfl) (by decide) rfl (fun ls hl => ?_)
    refine lv_goto (pc := 1323) (tgt := 18) hx hb dL_law_1323 (by decide) ?_
    exact hk18 hf V (lv_sub hl [1, 2, 3, 0] rfl) ⟨by omega, by omega⟩
  · replace hf := if_f hf c6
    refine lv_iconst (pc := 584) (v := (ii 0)) hx hb dL_law_584 (by decide) ?_
    cases hf
    exact x_zretW (pc := 585) X V hr (by omega) (by omega) (by decide) dL_law_585
set_option maxHeartbeats 400000 in
set_option maxRecDepth 100000 in
theorem zL_law_b564 {nf : Nat} {Ln : Nat} {xs : Nat → Int32} {dA : Nat → ClassId} {T : xT} {N : xT} {Z : Nat} {S : Nat} {I : xI} {L : xL} {R : xR} {kk18 : xT → xT → Nat → Nat → xI → xL → xR → Nat → Nat → Int32 → Option (Int32 × xT × xT × Nat × Nat × xI × xL × xR)} {x1 : Nat} {x2 : Nat} {x3 : Int32} {z0 : Int32} {ro : Int32} {To : xT} {No : xT} {Zo : Nat} {So : Nat} {Io : xI} {Lo : xL} {Ro : xR} (hm18 : ∀ {T : xT} {N : xT} {Z : Nat} {S : Nat} {I : xI} {L : xL} {R : xR} {x1 : Nat} {x2 : Nat} {x3 : Int32}, kk18 T N Z S I L R x1 x2 x3 = some (ro, To, No, Zo, So, Io, Lo, Ro) → Z ≤ Zo ∧ S ≤ So) (hf : fL_law_b564 nf xs Ln kk18 (sv dA) T N Z S I L R x1 x2 x3 z0 = some (ro, To, No, Zo, So, Io, Lo, Ro)) : Z ≤ Zo ∧ S ≤ So := by
  unfold fL_law_b564 at hf
  replace hf := tg_s hf; obtain ⟨ht5, hf⟩ := hf
  replace hf := b3s hf; obtain ⟨r1, I2, L3, hk_4, hf⟩ := hf
  rcases (Decidable.em (z0 = r1)) with c6 | c6
  · replace hf := if_t hf c6
    replace hf := nm_s hf; obtain ⟨u7, hu7, hf⟩ := hf
    have hm := hm18 hf
    exact ⟨by omega, by omega⟩
  · replace hf := if_f hf c6
    cases hf
    exact ⟨Nat.le_refl _, Nat.le_refl _⟩
set_option maxHeartbeats 400000 in
set_option maxRecDepth 100000 in
theorem wL_law_b564 {nf : Nat} {sb Ln : Nat} {xs : Nat → Int32} {kc ks : Nat} {cells slots : Nat} {p : Program} {l : Launch} {e : Env} {s : State} {m : MethodId} {args : Array Value} {below : List Frame} {meth : Method} {c : Code} {D : va_G} {dA : Nat → ClassId} {s0 : Nat} {T : xT} {N : xT} {Z : Nat} {S : Nat} {I : xI} {L : xL} {R : xR} {H : Heap} {locs : List Loc} {ls : Array Slot} {kk18 : xT → xT → Nat → Nat → xI → xL → xR → Nat → Nat → Int32 → Option (Int32 × xT × xT × Nat × Nat × xI × xL × xR)} {x1 : Nat} {x2 : Nat} {x3 : Int32} {z0 : Int32} {ro : Int32} {To : xT} {No : xT} {Zo : Nat} {So : Nat} {Io : xI} {Lo : xL} {Ro : xR} (X : Cx D dA s0 p m c cL_law 4 s args RL meth) (hr : meth.sig.returnType = some .boolean) (hXs : va_X sb Ln xs s s.heap ∧ sb < s0 ∧ s0 = s.heap.size) (hk18 : ∀ {T : xT} {N : xT} {Z : Nat} {S : Nat} {I : xI} {L : xL} {R : xR} {x1 : Nat} {x2 : Nat} {x3 : Int32} {H : Heap} {locs : List Loc} {ls : Array Slot} {cells slots : Nat} , kk18 T N Z S I L R x1 x2 x3 = some (ro, To, No, Zo, So, Io, Lo, Ro) → Iv D dA s0 s T N Z I L R H locs → lv_has ls 4 [(0, .ref sb), (1, .ref x1), (2, .ref x2), (3, .int x3)] → cells + (Zo - Z) ≤ kc ∧ slots + (So - S) ≤ ks → W p l e { frames := 8192, cells := kc, slots := ks, locals := 100000 } s m args below meth c H locs cells slots (MQ below (xQ D dA s0 (some (.int ro)) To No Zo Io Lo Ro) args s kc ks (fun q => s0 ≤ q)) (F0 m 18 ls [])) (hm18 : ∀ {T : xT} {N : xT} {Z : Nat} {S : Nat} {I : xI} {L : xL} {R : xR} {x1 : Nat} {x2 : Nat} {x3 : Int32}, kk18 T N Z S I L R x1 x2 x3 = some (ro, To, No, Zo, So, Io, Lo, Ro) → Z ≤ Zo ∧ S ≤ So) (hf : fL_law_b564 nf xs Ln kk18 (sv dA) T N Z S I L R x1 x2 x3 z0 = some (ro, To, No, Zo, So, Io, Lo, Ro)) (V : Iv D dA s0 s T N Z I L R H locs) (hl : lv_has ls 4 [(0, .ref sb), (1, .ref x1), (2, .ref x2), (3, .int x3)]) (hB : cells + (Zo - Z) ≤ kc ∧ slots + (So - S) ≤ ks) : W p l e { frames := 8192, cells := kc, slots := ks, locals := 100000 } s m args below meth c H locs cells slots (MQ below (xQ D dA s0 (some (.int ro)) To No Zo Io Lo Ro) args s kc ks (fun q => s0 ≤ q)) (F0 m 564 ls [.int z0]) := by
  have hx := X.1.1
  have hb := X.1.2.1
  unfold fL_law_b564 at hf
  refine lv_aload_n (pc := 564) hx hb dL_law_564 rfl (lv_at hl 2 rfl) ?_
  replace hf := tg_s hf; obtain ⟨ht5, hf⟩ := hf
  replace hf := b3s hf; obtain ⟨r1, I2, L3, hk_4, hf⟩ := hf
  refine x_callV0 (pc := 565) (As := []) (rest := [.int z0]) X V (mX5_law l D dA s0 hk_4) okX5 ht5 q1842 q1843 q1844 q129 q1845 ⟨rfl, hsX5_law⟩ ⟨Nat.le_of_ble_eq_true rfl, Nat.le_of_ble_eq_true rfl⟩ rfl hl.1 rfl (Nat.le_of_ble_eq_true rfl) dL_law_565 ⟨by show cells ≤ kc; omega, by show slots ≤ ks; omega⟩ (fun H locs V => W.eq (g2 := F0 m 568 ls [.int r1, .int z0]) rfl ?_)
  refine lv_icmp_eq (pc := 568) (tgt := 1320) hx hb dL_law_568 (by decide) (fun c6 => ?_) (fun c6 => ?_)
  · replace hf := if_t hf c6
    replace hf := nm_s hf; obtain ⟨u7, hu7, hf⟩ := hf
    refine lv_iinc (pc := 1320) (v := u7) (lv' := [(3, .int u7), (0, .ref sb), (1, .ref x1), (2, .ref x2)]) hx hb dL_law_1320 hl (k := 3) rfl (by rw [hu7]; rfl) (by decide) rfl (fun ls hl => ?_)
    refine lv_goto (pc := 1323) (tgt := 18) hx hb dL_law_1323 (by decide) ?_
    exact hk18 hf V (lv_sub hl [1, 2, 3, 0] rfl) ⟨by omega, by omega⟩
  · replace hf := if_f hf c6
    refine lv_iconst (pc := 571) (v := (ii 0)) hx hb dL_law_571 (by decide) ?_
    cases hf
    exact x_zretW (pc := 572) X V hr (by omega) (by omega) (by decide) dL_law_572
set_option maxHeartbeats 400000 in
set_option maxRecDepth 100000 in
theorem zL_law_b18 {nf : Nat} {Ln : Nat} {xs : Nat → Int32} {dA : Nat → ClassId}   {ro : Int32} {To : xT} {No : xT} {Zo : Nat} {So : Nat} {Io : xI} {Lo : xL} {Ro : xR}  (k : Nat) : ∀ {T : xT} {N : xT} {Z : Nat} {S : Nat} {I : xI} {L : xL} {R : xR} {x1 : Nat} {x2 : Nat} {x3 : Int32}, fL_law_b18 nf xs Ln (sv dA) k T N Z S I L R x1 x2 x3 = some (ro, To, No, Zo, So, Io, Lo, Ro) → Z ≤ Zo ∧ S ≤ So := by
  induction k with
  | zero =>
    intro T N Z S I L R x1 x2 x3 hf
    exact absurd (show none = some _ from hf) (fun q => nomatch q)
  | succ k ih =>
    intro T N Z S I L R x1 x2 x3 hf
    rw [fL_law_b18] at hf
    rcases (Decidable.em (((Int32.ofNat Ln) - (ii 6)) < x3)) with c1 | c1
    · replace hf := if_t hf c1
      cases hf
      exact ⟨Nat.le_refl _, Nat.le_refl _⟩
    · replace hf := if_f hf c1
      replace hf := chk_s hf; obtain ⟨hq2, hf⟩ := hf
      by_cases c3 : ((xs (x3).toNatClampNeg) &&& (ii 63)) = (ii 0)
      · replace hf := if_t hf c3
        replace hf := chk_s hf; obtain ⟨hq4, hf⟩ := hf
        replace hf := chk_s hf; obtain ⟨hq5, hf⟩ := hf
        replace hf := chk_s hf; obtain ⟨hq6, hf⟩ := hf
        replace hf := chk_s hf; obtain ⟨hq7, hf⟩ := hf
        replace hf := tg_s hf; obtain ⟨ht11, hf⟩ := hf
        replace hf := b2s hf; obtain ⟨r8, I9, hk_10, hf⟩ := hf
        replace hf := chk_s hf; obtain ⟨hq12, hf⟩ := hf
        replace hf := chk_s hf; obtain ⟨hq13, hf⟩ := hf
        replace hf := chk_s hf; obtain ⟨hq14, hf⟩ := hf
        replace hf := chk_s hf; obtain ⟨hq15, hf⟩ := hf
        replace hf := tg_s hf; obtain ⟨ht19, hf⟩ := hf
        replace hf := b2s hf; obtain ⟨r16, I17, hk_18, hf⟩ := hf
        rcases (Decidable.em (r8 = r16)) with c20 | c20
        · replace hf := if_t hf c20
          replace hf := nm_s hf; obtain ⟨u21, hu21, hf⟩ := hf
          have hm := ih hf
          exact ⟨by omega, by omega⟩
        · replace hf := if_f hf c20
          cases hf
          exact ⟨Nat.le_refl _, Nat.le_refl _⟩
      replace hf := if_f hf c3
      by_cases c22 : ((xs (x3).toNatClampNeg) &&& (ii 63)) = (ii 1)
      · replace hf := if_t hf c22
        replace hf := chk_s hf; obtain ⟨hq23, hf⟩ := hf
        replace hf := chk_s hf; obtain ⟨hq24, hf⟩ := hf
        replace hf := tg_s hf; obtain ⟨ht27, hf⟩ := hf
        replace hf := bs hf; obtain ⟨r25, hk_26, hf⟩ := hf
        replace hf := chk_s hf; obtain ⟨hq28, hf⟩ := hf
        replace hf := chk_s hf; obtain ⟨hq29, hf⟩ := hf
        replace hf := tg_s hf; obtain ⟨ht33, hf⟩ := hf
        replace hf := b2s hf; obtain ⟨r30, I31, hk_32, hf⟩ := hf
        rcases (Decidable.em (r25 = r30)) with c34 | c34
        · replace hf := if_t hf c34
          replace hf := nm_s hf; obtain ⟨u35, hu35, hf⟩ := hf
          have hm := ih hf
          exact ⟨by omega, by omega⟩
        · replace hf := if_f hf c34
          cases hf
          exact ⟨Nat.le_refl _, Nat.le_refl _⟩
      replace hf := if_f hf c22
      by_cases c36 : ((xs (x3).toNatClampNeg) &&& (ii 63)) = (ii 2)
      · replace hf := if_t hf c36
        replace hf := chk_s hf; obtain ⟨hq37, hf⟩ := hf
        replace hf := chk_s hf; obtain ⟨hq38, hf⟩ := hf
        replace hf := tg_s hf; obtain ⟨ht42, hf⟩ := hf
        replace hf := b2s hf; obtain ⟨r39, I40, hk_41, hf⟩ := hf
        replace hf := chk_s hf; obtain ⟨hq43, hf⟩ := hf
        replace hf := chk_s hf; obtain ⟨hq44, hf⟩ := hf
        replace hf := tg_s hf; obtain ⟨ht48, hf⟩ := hf
        replace hf := b2s hf; obtain ⟨r45, I46, hk_47, hf⟩ := hf
        rcases (Decidable.em (r39 = r45)) with c49 | c49
        · replace hf := if_t hf c49
          replace hf := nm_s hf; obtain ⟨u50, hu50, hf⟩ := hf
          have hm := ih hf
          exact ⟨by omega, by omega⟩
        · replace hf := if_f hf c49
          cases hf
          exact ⟨Nat.le_refl _, Nat.le_refl _⟩
      replace hf := if_f hf c36
      by_cases c51 : ((xs (x3).toNatClampNeg) &&& (ii 63)) = (ii 3)
      · replace hf := if_t hf c51
        replace hf := chk_s hf; obtain ⟨hq52, hf⟩ := hf
        replace hf := chk_s hf; obtain ⟨hq53, hf⟩ := hf
        replace hf := tg_s hf; obtain ⟨ht58, hf⟩ := hf
        replace hf := b3s hf; obtain ⟨r54, I55, L56, hk_57, hf⟩ := hf
        replace hf := chk_s hf; obtain ⟨hq59, hf⟩ := hf
        replace hf := chk_s hf; obtain ⟨hq60, hf⟩ := hf
        replace hf := tg_s hf; obtain ⟨ht65, hf⟩ := hf
        replace hf := b3s hf; obtain ⟨r61, I62, L63, hk_64, hf⟩ := hf
        rcases (Decidable.em (r54 = r61)) with c66 | c66
        · replace hf := if_t hf c66
          replace hf := nm_s hf; obtain ⟨u67, hu67, hf⟩ := hf
          have hm := ih hf
          exact ⟨by omega, by omega⟩
        · replace hf := if_f hf c66
          cases hf
          exact ⟨Nat.le_refl _, Nat.le_refl _⟩
      replace hf := if_f hf c51
      by_cases c68 : ((xs (x3).toNatClampNeg) &&& (ii 63)) = (ii 4)
      · replace hf := if_t hf c68
        replace hf := chk_s hf; obtain ⟨hq69, hf⟩ := hf
        replace hf := chk_s hf; obtain ⟨hq70, hf⟩ := hf
        replace hf := chk_s hf; obtain ⟨hq71, hf⟩ := hf
        replace hf := tg_s hf; obtain ⟨ht75, hf⟩ := hf
        replace hf := b2s hf; obtain ⟨r72, L73, hk_74, hf⟩ := hf
        replace hf := chk_s hf; obtain ⟨hq76, hf⟩ := hf
        replace hf := chk_s hf; obtain ⟨hq77, hf⟩ := hf
        replace hf := chk_s hf; obtain ⟨hq78, hf⟩ := hf
        replace hf := tg_s hf; obtain ⟨ht83, hf⟩ := hf
        replace hf := b3s hf; obtain ⟨r79, I80, L81, hk_82, hf⟩ := hf
        rcases (Decidable.em (r72 = r79)) with c84 | c84
        · replace hf := if_t hf c84
          replace hf := nm_s hf; obtain ⟨u85, hu85, hf⟩ := hf
          have hm := ih hf
          exact ⟨by omega, by omega⟩
        · replace hf := if_f hf c84
          cases hf
          exact ⟨Nat.le_refl _, Nat.le_refl _⟩
      replace hf := if_f hf c68
      by_cases c86 : ((xs (x3).toNatClampNeg) &&& (ii 63)) = (ii 5)
      · replace hf := if_t hf c86
        replace hf := chk_s hf; obtain ⟨hq87, hf⟩ := hf
        replace hf := chk_s hf; obtain ⟨hq88, hf⟩ := hf
        replace hf := tg_s hf; obtain ⟨ht92, hf⟩ := hf
        replace hf := b2s hf; obtain ⟨r89, I90, hk_91, hf⟩ := hf
        replace hf := chk_s hf; obtain ⟨hq93, hf⟩ := hf
        replace hf := chk_s hf; obtain ⟨hq94, hf⟩ := hf
        replace hf := tg_s hf; obtain ⟨ht98, hf⟩ := hf
        replace hf := b2s hf; obtain ⟨r95, I96, hk_97, hf⟩ := hf
        rcases (Decidable.em (r89 = r95)) with c99 | c99
        · replace hf := if_t hf c99
          replace hf := nm_s hf; obtain ⟨u100, hu100, hf⟩ := hf
          have hm := ih hf
          exact ⟨by omega, by omega⟩
        · replace hf := if_f hf c99
          cases hf
          exact ⟨Nat.le_refl _, Nat.le_refl _⟩
      replace hf := if_f hf c86
      by_cases c101 : ((xs (x3).toNatClampNeg) &&& (ii 63)) = (ii 6)
      · replace hf := if_t hf c101
        replace hf := chk_s hf; obtain ⟨hq102, hf⟩ := hf
        replace hf := chk_s hf; obtain ⟨hq103, hf⟩ := hf
        replace hf := chk_s hf; obtain ⟨hq104, hf⟩ := hf
        replace hf := chk_s hf; obtain ⟨hq105, hf⟩ := hf
        replace hf := chk_s hf; obtain ⟨hq106, hf⟩ := hf
        replace hf := tg_s hf; obtain ⟨ht110, hf⟩ := hf
        replace hf := b2s hf; obtain ⟨r107, I108, hk_109, hf⟩ := hf
        replace hf := chk_s hf; obtain ⟨hq111, hf⟩ := hf
        replace hf := chk_s hf; obtain ⟨hq112, hf⟩ := hf
        replace hf := chk_s hf; obtain ⟨hq113, hf⟩ := hf
        replace hf := chk_s hf; obtain ⟨hq114, hf⟩ := hf
        replace hf := chk_s hf; obtain ⟨hq115, hf⟩ := hf
        replace hf := tg_s hf; obtain ⟨ht119, hf⟩ := hf
        replace hf := b2s hf; obtain ⟨r116, I117, hk_118, hf⟩ := hf
        rcases (Decidable.em (r107 = r116)) with c120 | c120
        · replace hf := if_t hf c120
          replace hf := nm_s hf; obtain ⟨u121, hu121, hf⟩ := hf
          have hm := ih hf
          exact ⟨by omega, by omega⟩
        · replace hf := if_f hf c120
          cases hf
          exact ⟨Nat.le_refl _, Nat.le_refl _⟩
      replace hf := if_f hf c101
      by_cases c122 : ((xs (x3).toNatClampNeg) &&& (ii 63)) = (ii 7)
      · replace hf := if_t hf c122
        replace hf := chk_s hf; obtain ⟨hq123, hf⟩ := hf
        replace hf := tg_s hf; obtain ⟨ht127, hf⟩ := hf
        replace hf := b2s hf; obtain ⟨r124, I125, hk_126, hf⟩ := hf
        replace hf := chk_s hf; obtain ⟨hq128, hf⟩ := hf
        replace hf := tg_s hf; obtain ⟨ht132, hf⟩ := hf
        replace hf := b2s hf; obtain ⟨r129, I130, hk_131, hf⟩ := hf
        rcases (Decidable.em (r124 = r129)) with c133 | c133
        · replace hf := if_t hf c133
          replace hf := nm_s hf; obtain ⟨u134, hu134, hf⟩ := hf
          have hm := ih hf
          exact ⟨by omega, by omega⟩
        · replace hf := if_f hf c133
          cases hf
          exact ⟨Nat.le_refl _, Nat.le_refl _⟩
      replace hf := if_f hf c122
      by_cases c135 : ((xs (x3).toNatClampNeg) &&& (ii 63)) = (ii 8)
      · replace hf := if_t hf c135
        replace hf := tg_s hf; obtain ⟨ht139, hf⟩ := hf
        replace hf := b2s hf; obtain ⟨r136, I137, hk_138, hf⟩ := hf
        replace hf := tg_s hf; obtain ⟨ht143, hf⟩ := hf
        replace hf := b2s hf; obtain ⟨r140, I141, hk_142, hf⟩ := hf
        rcases (Decidable.em (r136 = r140)) with c144 | c144
        · replace hf := if_t hf c144
          replace hf := nm_s hf; obtain ⟨u145, hu145, hf⟩ := hf
          have hm := ih hf
          exact ⟨by omega, by omega⟩
        · replace hf := if_f hf c144
          cases hf
          exact ⟨Nat.le_refl _, Nat.le_refl _⟩
      replace hf := if_f hf c135
      by_cases c146 : ((xs (x3).toNatClampNeg) &&& (ii 63)) = (ii 9)
      · replace hf := if_t hf c146
        replace hf := tg_s hf; obtain ⟨ht149, hf⟩ := hf
        replace hf := bs hf; obtain ⟨r147, hk_148, hf⟩ := hf
        replace hf := tg_s hf; obtain ⟨ht153, hf⟩ := hf
        replace hf := b2s hf; obtain ⟨r150, I151, hk_152, hf⟩ := hf
        rcases (Decidable.em (r147 = r150)) with c154 | c154
        · replace hf := if_t hf c154
          replace hf := nm_s hf; obtain ⟨u155, hu155, hf⟩ := hf
          have hm := ih hf
          exact ⟨by omega, by omega⟩
        · replace hf := if_f hf c154
          cases hf
          exact ⟨Nat.le_refl _, Nat.le_refl _⟩
      replace hf := if_f hf c146
      by_cases c156 : ((xs (x3).toNatClampNeg) &&& (ii 63)) = (ii 10)
      · replace hf := if_t hf c156
        replace hf := tg_s hf; obtain ⟨ht165, hf⟩ := hf
        replace hf := b7s hf; obtain ⟨r157, T158, N159, Z160, S161, I162, R163, hk_164, hf⟩ := hf
        have hm_hk_164 := zX0_law hk_164
        have hm := zL_law_b564 ih hf
        exact ⟨by omega, by omega⟩
      replace hf := if_f hf c156
      by_cases c166 : ((xs (x3).toNatClampNeg) &&& (ii 63)) = (ii 11)
      · replace hf := if_t hf c166
        replace hf := tg_s hf; obtain ⟨ht176, hf⟩ := hf
        replace hf := b8s hf; obtain ⟨r167, T168, N169, Z170, S171, I172, L173, R174, hk_175, hf⟩ := hf
        have hm_hk_175 := zX0_orders hk_175
        have hm := zL_law_b577 ih hf
        exact ⟨by omega, by omega⟩
      replace hf := if_f hf c166
      by_cases c177 : ((xs (x3).toNatClampNeg) &&& (ii 63)) = (ii 12)
      · replace hf := if_t hf c177
        replace hf := tg_s hf; obtain ⟨ht180, hf⟩ := hf
        replace hf := bs hf; obtain ⟨r178, hk_179, hf⟩ := hf
        replace hf := tg_s hf; obtain ⟨ht184, hf⟩ := hf
        replace hf := b2s hf; obtain ⟨r181, I182, hk_183, hf⟩ := hf
        rcases (Decidable.em (r178 = r181)) with c185 | c185
        · replace hf := if_t hf c185
          replace hf := nm_s hf; obtain ⟨u186, hu186, hf⟩ := hf
          have hm := ih hf
          exact ⟨by omega, by omega⟩
        · replace hf := if_f hf c185
          cases hf
          exact ⟨Nat.le_refl _, Nat.le_refl _⟩
      replace hf := if_f hf c177
      by_cases c187 : ((xs (x3).toNatClampNeg) &&& (ii 63)) = (ii 13)
      · replace hf := if_t hf c187
        replace hf := tg_s hf; obtain ⟨ht190, hf⟩ := hf
        replace hf := bs hf; obtain ⟨r188, hk_189, hf⟩ := hf
        replace hf := tg_s hf; obtain ⟨ht194, hf⟩ := hf
        replace hf := b2s hf; obtain ⟨r191, I192, hk_193, hf⟩ := hf
        rcases (Decidable.em (r188 = r191)) with c195 | c195
        · replace hf := if_t hf c195
          replace hf := nm_s hf; obtain ⟨u196, hu196, hf⟩ := hf
          have hm := ih hf
          exact ⟨by omega, by omega⟩
        · replace hf := if_f hf c195
          cases hf
          exact ⟨Nat.le_refl _, Nat.le_refl _⟩
      replace hf := if_f hf c187
      by_cases c197 : ((xs (x3).toNatClampNeg) &&& (ii 63)) = (ii 14)
      · replace hf := if_t hf c197
        replace hf := chk_s hf; obtain ⟨hq198, hf⟩ := hf
        replace hf := tg_s hf; obtain ⟨ht202, hf⟩ := hf
        replace hf := b2s hf; obtain ⟨r199, I200, hk_201, hf⟩ := hf
        replace hf := chk_s hf; obtain ⟨hq203, hf⟩ := hf
        replace hf := tg_s hf; obtain ⟨ht207, hf⟩ := hf
        replace hf := b2s hf; obtain ⟨r204, I205, hk_206, hf⟩ := hf
        rcases (Decidable.em (r199 = r204)) with c208 | c208
        · replace hf := if_t hf c208
          replace hf := nm_s hf; obtain ⟨u209, hu209, hf⟩ := hf
          have hm := ih hf
          exact ⟨by omega, by omega⟩
        · replace hf := if_f hf c208
          cases hf
          exact ⟨Nat.le_refl _, Nat.le_refl _⟩
      replace hf := if_f hf c197
      by_cases c210 : ((xs (x3).toNatClampNeg) &&& (ii 63)) = (ii 15)
      · replace hf := if_t hf c210
        replace hf := chk_s hf; obtain ⟨hq211, hf⟩ := hf
        replace hf := tg_s hf; obtain ⟨ht217, hf⟩ := hf
        replace hf := b4s hf; obtain ⟨r212, I213, L214, R215, hk_216, hf⟩ := hf
        replace hf := chk_s hf; obtain ⟨hq218, hf⟩ := hf
        replace hf := tg_s hf; obtain ⟨ht223, hf⟩ := hf
        replace hf := b3s hf; obtain ⟨r219, I220, L221, hk_222, hf⟩ := hf
        rcases (Decidable.em (r212 = r219)) with c224 | c224
        · replace hf := if_t hf c224
          replace hf := nm_s hf; obtain ⟨u225, hu225, hf⟩ := hf
          have hm := ih hf
          exact ⟨by omega, by omega⟩
        · replace hf := if_f hf c224
          cases hf
          exact ⟨Nat.le_refl _, Nat.le_refl _⟩
      replace hf := if_f hf c210
      by_cases c226 : ((xs (x3).toNatClampNeg) &&& (ii 63)) = (ii 16)
      · replace hf := if_t hf c226
        replace hf := chk_s hf; obtain ⟨hq227, hf⟩ := hf
        replace hf := tg_s hf; obtain ⟨ht233, hf⟩ := hf
        replace hf := b4s hf; obtain ⟨r228, I229, L230, R231, hk_232, hf⟩ := hf
        replace hf := chk_s hf; obtain ⟨hq234, hf⟩ := hf
        replace hf := tg_s hf; obtain ⟨ht239, hf⟩ := hf
        replace hf := b3s hf; obtain ⟨r235, I236, L237, hk_238, hf⟩ := hf
        rcases (Decidable.em (r228 = r235)) with c240 | c240
        · replace hf := if_t hf c240
          replace hf := nm_s hf; obtain ⟨u241, hu241, hf⟩ := hf
          have hm := ih hf
          exact ⟨by omega, by omega⟩
        · replace hf := if_f hf c240
          cases hf
          exact ⟨Nat.le_refl _, Nat.le_refl _⟩
      replace hf := if_f hf c226
      by_cases c242 : ((xs (x3).toNatClampNeg) &&& (ii 63)) = (ii 17)
      · replace hf := if_t hf c242
        replace hf := chk_s hf; obtain ⟨hq243, hf⟩ := hf
        replace hf := chk_s hf; obtain ⟨hq244, hf⟩ := hf
        replace hf := tg_s hf; obtain ⟨ht249, hf⟩ := hf
        replace hf := b3s hf; obtain ⟨r245, I246, R247, hk_248, hf⟩ := hf
        replace hf := chk_s hf; obtain ⟨hq250, hf⟩ := hf
        replace hf := chk_s hf; obtain ⟨hq251, hf⟩ := hf
        replace hf := tg_s hf; obtain ⟨ht255, hf⟩ := hf
        replace hf := b2s hf; obtain ⟨r252, I253, hk_254, hf⟩ := hf
        rcases (Decidable.em (r245 = r252)) with c256 | c256
        · replace hf := if_t hf c256
          replace hf := nm_s hf; obtain ⟨u257, hu257, hf⟩ := hf
          have hm := ih hf
          exact ⟨by omega, by omega⟩
        · replace hf := if_f hf c256
          cases hf
          exact ⟨Nat.le_refl _, Nat.le_refl _⟩
      replace hf := if_f hf c242
      by_cases c258 : ((xs (x3).toNatClampNeg) &&& (ii 63)) = (ii 18)
      · replace hf := if_t hf c258
        replace hf := tg_s hf; obtain ⟨ht264, hf⟩ := hf
        replace hf := b4s hf; obtain ⟨r259, I260, L261, R262, hk_263, hf⟩ := hf
        replace hf := tg_s hf; obtain ⟨ht269, hf⟩ := hf
        replace hf := b3s hf; obtain ⟨r265, I266, L267, hk_268, hf⟩ := hf
        rcases (Decidable.em (r259 = r265)) with c270 | c270
        · replace hf := if_t hf c270
          replace hf := nm_s hf; obtain ⟨u271, hu271, hf⟩ := hf
          have hm := ih hf
          exact ⟨by omega, by omega⟩
        · replace hf := if_f hf c270
          cases hf
          exact ⟨Nat.le_refl _, Nat.le_refl _⟩
      replace hf := if_f hf c258
      by_cases c272 : ((xs (x3).toNatClampNeg) &&& (ii 63)) = (ii 19)
      · replace hf := if_t hf c272
        replace hf := tg_s hf; obtain ⟨ht276, hf⟩ := hf
        replace hf := b2s hf; obtain ⟨r273, I274, hk_275, hf⟩ := hf
        replace hf := tg_s hf; obtain ⟨ht280, hf⟩ := hf
        replace hf := b2s hf; obtain ⟨r277, I278, hk_279, hf⟩ := hf
        rcases (Decidable.em (r273 = r277)) with c281 | c281
        · replace hf := if_t hf c281
          replace hf := nm_s hf; obtain ⟨u282, hu282, hf⟩ := hf
          have hm := ih hf
          exact ⟨by omega, by omega⟩
        · replace hf := if_f hf c281
          cases hf
          exact ⟨Nat.le_refl _, Nat.le_refl _⟩
      replace hf := if_f hf c272
      by_cases c283 : ((xs (x3).toNatClampNeg) &&& (ii 63)) = (ii 20)
      · replace hf := if_t hf c283
        replace hf := chk_s hf; obtain ⟨hq284, hf⟩ := hf
        replace hf := chk_s hf; obtain ⟨hq285, hf⟩ := hf
        replace hf := tg_s hf; obtain ⟨ht290, hf⟩ := hf
        replace hf := b3s hf; obtain ⟨r286, I287, L288, hk_289, hf⟩ := hf
        replace hf := chk_s hf; obtain ⟨hq291, hf⟩ := hf
        replace hf := chk_s hf; obtain ⟨hq292, hf⟩ := hf
        replace hf := tg_s hf; obtain ⟨ht297, hf⟩ := hf
        replace hf := b3s hf; obtain ⟨r293, I294, L295, hk_296, hf⟩ := hf
        rcases (Decidable.em (r286 = r293)) with c298 | c298
        · replace hf := if_t hf c298
          replace hf := nm_s hf; obtain ⟨u299, hu299, hf⟩ := hf
          have hm := ih hf
          exact ⟨by omega, by omega⟩
        · replace hf := if_f hf c298
          cases hf
          exact ⟨Nat.le_refl _, Nat.le_refl _⟩
      replace hf := if_f hf c283
      by_cases c300 : ((xs (x3).toNatClampNeg) &&& (ii 63)) = (ii 21)
      · replace hf := if_t hf c300
        replace hf := chk_s hf; obtain ⟨hq301, hf⟩ := hf
        replace hf := chk_s hf; obtain ⟨hq302, hf⟩ := hf
        replace hf := tg_s hf; obtain ⟨ht306, hf⟩ := hf
        replace hf := b2s hf; obtain ⟨r303, I304, hk_305, hf⟩ := hf
        replace hf := chk_s hf; obtain ⟨hq307, hf⟩ := hf
        replace hf := chk_s hf; obtain ⟨hq308, hf⟩ := hf
        replace hf := tg_s hf; obtain ⟨ht312, hf⟩ := hf
        replace hf := b2s hf; obtain ⟨r309, I310, hk_311, hf⟩ := hf
        rcases (Decidable.em (r303 = r309)) with c313 | c313
        · replace hf := if_t hf c313
          replace hf := nm_s hf; obtain ⟨u314, hu314, hf⟩ := hf
          have hm := ih hf
          exact ⟨by omega, by omega⟩
        · replace hf := if_f hf c313
          cases hf
          exact ⟨Nat.le_refl _, Nat.le_refl _⟩
      replace hf := if_f hf c300
      by_cases c315 : ((xs (x3).toNatClampNeg) &&& (ii 63)) = (ii 22)
      · replace hf := if_t hf c315
        replace hf := chk_s hf; obtain ⟨hq316, hf⟩ := hf
        replace hf := chk_s hf; obtain ⟨hq317, hf⟩ := hf
        replace hf := tg_s hf; obtain ⟨ht322, hf⟩ := hf
        replace hf := b3s hf; obtain ⟨r318, I319, L320, hk_321, hf⟩ := hf
        replace hf := chk_s hf; obtain ⟨hq323, hf⟩ := hf
        replace hf := chk_s hf; obtain ⟨hq324, hf⟩ := hf
        replace hf := tg_s hf; obtain ⟨ht329, hf⟩ := hf
        replace hf := b3s hf; obtain ⟨r325, I326, L327, hk_328, hf⟩ := hf
        rcases (Decidable.em (r318 = r325)) with c330 | c330
        · replace hf := if_t hf c330
          replace hf := nm_s hf; obtain ⟨u331, hu331, hf⟩ := hf
          have hm := ih hf
          exact ⟨by omega, by omega⟩
        · replace hf := if_f hf c330
          cases hf
          exact ⟨Nat.le_refl _, Nat.le_refl _⟩
      replace hf := if_f hf c315
      by_cases c332 : ((xs (x3).toNatClampNeg) &&& (ii 63)) = (ii 23)
      · replace hf := if_t hf c332
        replace hf := chk_s hf; obtain ⟨hq333, hf⟩ := hf
        replace hf := tg_s hf; obtain ⟨ht338, hf⟩ := hf
        replace hf := b3s hf; obtain ⟨r334, I335, L336, hk_337, hf⟩ := hf
        replace hf := chk_s hf; obtain ⟨hq339, hf⟩ := hf
        replace hf := tg_s hf; obtain ⟨ht344, hf⟩ := hf
        replace hf := b3s hf; obtain ⟨r340, I341, L342, hk_343, hf⟩ := hf
        rcases (Decidable.em (r334 = r340)) with c345 | c345
        · replace hf := if_t hf c345
          replace hf := nm_s hf; obtain ⟨u346, hu346, hf⟩ := hf
          have hm := ih hf
          exact ⟨by omega, by omega⟩
        · replace hf := if_f hf c345
          cases hf
          exact ⟨Nat.le_refl _, Nat.le_refl _⟩
      replace hf := if_f hf c332
      by_cases c347 : ((xs (x3).toNatClampNeg) &&& (ii 63)) = (ii 24)
      · replace hf := if_t hf c347
        replace hf := chk_s hf; obtain ⟨hq348, hf⟩ := hf
        replace hf := chk_s hf; obtain ⟨hq349, hf⟩ := hf
        replace hf := tg_s hf; obtain ⟨ht353, hf⟩ := hf
        replace hf := b2s hf; obtain ⟨r350, I351, hk_352, hf⟩ := hf
        replace hf := chk_s hf; obtain ⟨hq354, hf⟩ := hf
        replace hf := chk_s hf; obtain ⟨hq355, hf⟩ := hf
        replace hf := tg_s hf; obtain ⟨ht359, hf⟩ := hf
        replace hf := b2s hf; obtain ⟨r356, I357, hk_358, hf⟩ := hf
        rcases (Decidable.em (r350 = r356)) with c360 | c360
        · replace hf := if_t hf c360
          replace hf := nm_s hf; obtain ⟨u361, hu361, hf⟩ := hf
          have hm := ih hf
          exact ⟨by omega, by omega⟩
        · replace hf := if_f hf c360
          cases hf
          exact ⟨Nat.le_refl _, Nat.le_refl _⟩
      replace hf := if_f hf c347
      by_cases c362 : ((xs (x3).toNatClampNeg) &&& (ii 63)) = (ii 25)
      · replace hf := if_t hf c362
        replace hf := chk_s hf; obtain ⟨hq363, hf⟩ := hf
        replace hf := tg_s hf; obtain ⟨ht368, hf⟩ := hf
        replace hf := b3s hf; obtain ⟨r364, I365, L366, hk_367, hf⟩ := hf
        replace hf := chk_s hf; obtain ⟨hq369, hf⟩ := hf
        replace hf := tg_s hf; obtain ⟨ht374, hf⟩ := hf
        replace hf := b3s hf; obtain ⟨r370, I371, L372, hk_373, hf⟩ := hf
        rcases (Decidable.em (r364 = r370)) with c375 | c375
        · replace hf := if_t hf c375
          replace hf := nm_s hf; obtain ⟨u376, hu376, hf⟩ := hf
          have hm := ih hf
          exact ⟨by omega, by omega⟩
        · replace hf := if_f hf c375
          cases hf
          exact ⟨Nat.le_refl _, Nat.le_refl _⟩
      replace hf := if_f hf c362
      by_cases c377 : ((xs (x3).toNatClampNeg) &&& (ii 63)) = (ii 26)
      · replace hf := if_t hf c377
        replace hf := chk_s hf; obtain ⟨hq378, hf⟩ := hf
        replace hf := tg_s hf; obtain ⟨ht382, hf⟩ := hf
        replace hf := b2s hf; obtain ⟨r379, I380, hk_381, hf⟩ := hf
        replace hf := chk_s hf; obtain ⟨hq383, hf⟩ := hf
        replace hf := tg_s hf; obtain ⟨ht387, hf⟩ := hf
        replace hf := b2s hf; obtain ⟨r384, I385, hk_386, hf⟩ := hf
        rcases (Decidable.em (r379 = r384)) with c388 | c388
        · replace hf := if_t hf c388
          replace hf := nm_s hf; obtain ⟨u389, hu389, hf⟩ := hf
          have hm := ih hf
          exact ⟨by omega, by omega⟩
        · replace hf := if_f hf c388
          cases hf
          exact ⟨Nat.le_refl _, Nat.le_refl _⟩
      replace hf := if_f hf c377
      by_cases c390 : ((xs (x3).toNatClampNeg) &&& (ii 63)) = (ii 27)
      · replace hf := if_t hf c390
        replace hf := tg_s hf; obtain ⟨ht394, hf⟩ := hf
        replace hf := b2s hf; obtain ⟨r391, I392, hk_393, hf⟩ := hf
        replace hf := tg_s hf; obtain ⟨ht398, hf⟩ := hf
        replace hf := b2s hf; obtain ⟨r395, I396, hk_397, hf⟩ := hf
        rcases (Decidable.em (r391 = r395)) with c399 | c399
        · replace hf := if_t hf c399
          replace hf := nm_s hf; obtain ⟨u400, hu400, hf⟩ := hf
          have hm := ih hf
          exact ⟨by omega, by omega⟩
        · replace hf := if_f hf c399
          cases hf
          exact ⟨Nat.le_refl _, Nat.le_refl _⟩
      replace hf := if_f hf c390
      by_cases c401 : ((xs (x3).toNatClampNeg) &&& (ii 63)) = (ii 28)
      · replace hf := if_t hf c401
        replace hf := chk_s hf; obtain ⟨hq402, hf⟩ := hf
        replace hf := tg_s hf; obtain ⟨ht406, hf⟩ := hf
        replace hf := b2s hf; obtain ⟨r403, I404, hk_405, hf⟩ := hf
        replace hf := chk_s hf; obtain ⟨hq407, hf⟩ := hf
        replace hf := tg_s hf; obtain ⟨ht411, hf⟩ := hf
        replace hf := b2s hf; obtain ⟨r408, I409, hk_410, hf⟩ := hf
        rcases (Decidable.em (r403 = r408)) with c412 | c412
        · replace hf := if_t hf c412
          replace hf := nm_s hf; obtain ⟨u413, hu413, hf⟩ := hf
          have hm := ih hf
          exact ⟨by omega, by omega⟩
        · replace hf := if_f hf c412
          cases hf
          exact ⟨Nat.le_refl _, Nat.le_refl _⟩
      replace hf := if_f hf c401
      by_cases c414 : ((xs (x3).toNatClampNeg) &&& (ii 63)) = (ii 29)
      · replace hf := if_t hf c414
        replace hf := chk_s hf; obtain ⟨hq415, hf⟩ := hf
        replace hf := tg_s hf; obtain ⟨ht418, hf⟩ := hf
        replace hf := bs hf; obtain ⟨r416, hk_417, hf⟩ := hf
        replace hf := chk_s hf; obtain ⟨hq419, hf⟩ := hf
        replace hf := tg_s hf; obtain ⟨ht423, hf⟩ := hf
        replace hf := b2s hf; obtain ⟨r420, I421, hk_422, hf⟩ := hf
        rcases (Decidable.em (r416 = r420)) with c424 | c424
        · replace hf := if_t hf c424
          replace hf := nm_s hf; obtain ⟨u425, hu425, hf⟩ := hf
          have hm := ih hf
          exact ⟨by omega, by omega⟩
        · replace hf := if_f hf c424
          cases hf
          exact ⟨Nat.le_refl _, Nat.le_refl _⟩
      replace hf := if_f hf c414
      by_cases c426 : ((xs (x3).toNatClampNeg) &&& (ii 63)) = (ii 30)
      · replace hf := if_t hf c426
        replace hf := chk_s hf; obtain ⟨hq427, hf⟩ := hf
        replace hf := chk_s hf; obtain ⟨hq428, hf⟩ := hf
        replace hf := chk_s hf; obtain ⟨hq429, hf⟩ := hf
        replace hf := tg_s hf; obtain ⟨ht433, hf⟩ := hf
        replace hf := b2s hf; obtain ⟨r430, I431, hk_432, hf⟩ := hf
        replace hf := chk_s hf; obtain ⟨hq434, hf⟩ := hf
        replace hf := chk_s hf; obtain ⟨hq435, hf⟩ := hf
        replace hf := chk_s hf; obtain ⟨hq436, hf⟩ := hf
        replace hf := tg_s hf; obtain ⟨ht440, hf⟩ := hf
        replace hf := b2s hf; obtain ⟨r437, I438, hk_439, hf⟩ := hf
        rcases (Decidable.em (r430 = r437)) with c441 | c441
        · replace hf := if_t hf c441
          replace hf := nm_s hf; obtain ⟨u442, hu442, hf⟩ := hf
          have hm := ih hf
          exact ⟨by omega, by omega⟩
        · replace hf := if_f hf c441
          cases hf
          exact ⟨Nat.le_refl _, Nat.le_refl _⟩
      replace hf := if_f hf c426
      by_cases c443 : ((xs (x3).toNatClampNeg) &&& (ii 63)) = (ii 31)
      · replace hf := if_t hf c443
        replace hf := chk_s hf; obtain ⟨hq444, hf⟩ := hf
        replace hf := tg_s hf; obtain ⟨ht448, hf⟩ := hf
        replace hf := b2s hf; obtain ⟨r445, I446, hk_447, hf⟩ := hf
        replace hf := chk_s hf; obtain ⟨hq449, hf⟩ := hf
        replace hf := tg_s hf; obtain ⟨ht453, hf⟩ := hf
        replace hf := b2s hf; obtain ⟨r450, I451, hk_452, hf⟩ := hf
        rcases (Decidable.em (r445 = r450)) with c454 | c454
        · replace hf := if_t hf c454
          replace hf := nm_s hf; obtain ⟨u455, hu455, hf⟩ := hf
          have hm := ih hf
          exact ⟨by omega, by omega⟩
        · replace hf := if_f hf c454
          cases hf
          exact ⟨Nat.le_refl _, Nat.le_refl _⟩
      replace hf := if_f hf c443
      by_cases c456 : ((xs (x3).toNatClampNeg) &&& (ii 63)) = (ii 32)
      · replace hf := if_t hf c456
        replace hf := tg_s hf; obtain ⟨ht459, hf⟩ := hf
        replace hf := bs hf; obtain ⟨r457, hk_458, hf⟩ := hf
        replace hf := tg_s hf; obtain ⟨ht463, hf⟩ := hf
        replace hf := b2s hf; obtain ⟨r460, I461, hk_462, hf⟩ := hf
        rcases (Decidable.em (r457 = r460)) with c464 | c464
        · replace hf := if_t hf c464
          replace hf := nm_s hf; obtain ⟨u465, hu465, hf⟩ := hf
          have hm := ih hf
          exact ⟨by omega, by omega⟩
        · replace hf := if_f hf c464
          cases hf
          exact ⟨Nat.le_refl _, Nat.le_refl _⟩
      replace hf := if_f hf c456
      by_cases c466 : ((xs (x3).toNatClampNeg) &&& (ii 63)) = (ii 33)
      · replace hf := if_t hf c466
        replace hf := tg_s hf; obtain ⟨ht470, hf⟩ := hf
        replace hf := b2s hf; obtain ⟨r467, I468, hk_469, hf⟩ := hf
        replace hf := tg_s hf; obtain ⟨ht474, hf⟩ := hf
        replace hf := b2s hf; obtain ⟨r471, I472, hk_473, hf⟩ := hf
        rcases (Decidable.em (r467 = r471)) with c475 | c475
        · replace hf := if_t hf c475
          replace hf := nm_s hf; obtain ⟨u476, hu476, hf⟩ := hf
          have hm := ih hf
          exact ⟨by omega, by omega⟩
        · replace hf := if_f hf c475
          cases hf
          exact ⟨Nat.le_refl _, Nat.le_refl _⟩
      replace hf := if_f hf c466
      by_cases c477 : ((xs (x3).toNatClampNeg) &&& (ii 63)) = (ii 34)
      · replace hf := if_t hf c477
        replace hf := tg_s hf; obtain ⟨ht480, hf⟩ := hf
        replace hf := bs hf; obtain ⟨r478, hk_479, hf⟩ := hf
        replace hf := tg_s hf; obtain ⟨ht484, hf⟩ := hf
        replace hf := b2s hf; obtain ⟨r481, I482, hk_483, hf⟩ := hf
        rcases (Decidable.em (r478 = r481)) with c485 | c485
        · replace hf := if_t hf c485
          replace hf := nm_s hf; obtain ⟨u486, hu486, hf⟩ := hf
          have hm := ih hf
          exact ⟨by omega, by omega⟩
        · replace hf := if_f hf c485
          cases hf
          exact ⟨Nat.le_refl _, Nat.le_refl _⟩
      replace hf := if_f hf c477
      by_cases c487 : ((xs (x3).toNatClampNeg) &&& (ii 63)) = (ii 35)
      · replace hf := if_t hf c487
        replace hf := chk_s hf; obtain ⟨hq488, hf⟩ := hf
        replace hf := chk_s hf; obtain ⟨hq489, hf⟩ := hf
        replace hf := tg_s hf; obtain ⟨ht493, hf⟩ := hf
        replace hf := b2s hf; obtain ⟨r490, L491, hk_492, hf⟩ := hf
        replace hf := chk_s hf; obtain ⟨hq494, hf⟩ := hf
        replace hf := chk_s hf; obtain ⟨hq495, hf⟩ := hf
        replace hf := tg_s hf; obtain ⟨ht500, hf⟩ := hf
        replace hf := b3s hf; obtain ⟨r496, I497, L498, hk_499, hf⟩ := hf
        rcases (Decidable.em (r490 = r496)) with c501 | c501
        · replace hf := if_t hf c501
          replace hf := nm_s hf; obtain ⟨u502, hu502, hf⟩ := hf
          have hm := ih hf
          exact ⟨by omega, by omega⟩
        · replace hf := if_f hf c501
          cases hf
          exact ⟨Nat.le_refl _, Nat.le_refl _⟩
      replace hf := if_f hf c487
      by_cases c503 : ((xs (x3).toNatClampNeg) &&& (ii 63)) = (ii 36)
      · replace hf := if_t hf c503
        replace hf := chk_s hf; obtain ⟨hq504, hf⟩ := hf
        replace hf := chk_s hf; obtain ⟨hq505, hf⟩ := hf
        replace hf := tg_s hf; obtain ⟨ht510, hf⟩ := hf
        replace hf := b3s hf; obtain ⟨r506, I507, L508, hk_509, hf⟩ := hf
        replace hf := chk_s hf; obtain ⟨hq511, hf⟩ := hf
        replace hf := chk_s hf; obtain ⟨hq512, hf⟩ := hf
        replace hf := tg_s hf; obtain ⟨ht517, hf⟩ := hf
        replace hf := b3s hf; obtain ⟨r513, I514, L515, hk_516, hf⟩ := hf
        rcases (Decidable.em (r506 = r513)) with c518 | c518
        · replace hf := if_t hf c518
          replace hf := nm_s hf; obtain ⟨u519, hu519, hf⟩ := hf
          have hm := ih hf
          exact ⟨by omega, by omega⟩
        · replace hf := if_f hf c518
          cases hf
          exact ⟨Nat.le_refl _, Nat.le_refl _⟩
      replace hf := if_f hf c503
      by_cases c520 : ((xs (x3).toNatClampNeg) &&& (ii 63)) = (ii 37)
      · replace hf := if_t hf c520
        replace hf := chk_s hf; obtain ⟨hq521, hf⟩ := hf
        replace hf := chk_s hf; obtain ⟨hq522, hf⟩ := hf
        replace hf := tg_s hf; obtain ⟨ht527, hf⟩ := hf
        replace hf := b3s hf; obtain ⟨r523, I524, L525, hk_526, hf⟩ := hf
        replace hf := chk_s hf; obtain ⟨hq528, hf⟩ := hf
        replace hf := chk_s hf; obtain ⟨hq529, hf⟩ := hf
        replace hf := tg_s hf; obtain ⟨ht534, hf⟩ := hf
        replace hf := b3s hf; obtain ⟨r530, I531, L532, hk_533, hf⟩ := hf
        rcases (Decidable.em (r523 = r530)) with c535 | c535
        · replace hf := if_t hf c535
          replace hf := nm_s hf; obtain ⟨u536, hu536, hf⟩ := hf
          have hm := ih hf
          exact ⟨by omega, by omega⟩
        · replace hf := if_f hf c535
          cases hf
          exact ⟨Nat.le_refl _, Nat.le_refl _⟩
      replace hf := if_f hf c520
      by_cases c537 : ((xs (x3).toNatClampNeg) &&& (ii 63)) = (ii 38)
      · replace hf := if_t hf c537
        replace hf := chk_s hf; obtain ⟨hq538, hf⟩ := hf
        replace hf := chk_s hf; obtain ⟨hq539, hf⟩ := hf
        replace hf := tg_s hf; obtain ⟨ht542, hf⟩ := hf
        replace hf := bs hf; obtain ⟨r540, hk_541, hf⟩ := hf
        replace hf := chk_s hf; obtain ⟨hq543, hf⟩ := hf
        replace hf := chk_s hf; obtain ⟨hq544, hf⟩ := hf
        replace hf := tg_s hf; obtain ⟨ht548, hf⟩ := hf
        replace hf := b2s hf; obtain ⟨r545, I546, hk_547, hf⟩ := hf
        rcases (Decidable.em (r540 = r545)) with c549 | c549
        · replace hf := if_t hf c549
          replace hf := nm_s hf; obtain ⟨u550, hu550, hf⟩ := hf
          have hm := ih hf
          exact ⟨by omega, by omega⟩
        · replace hf := if_f hf c549
          cases hf
          exact ⟨Nat.le_refl _, Nat.le_refl _⟩
      replace hf := if_f hf c537
      by_cases c551 : ((xs (x3).toNatClampNeg) &&& (ii 63)) = (ii 39)
      · replace hf := if_t hf c551
        replace hf := chk_s hf; obtain ⟨hq552, hf⟩ := hf
        replace hf := tg_s hf; obtain ⟨ht561, hf⟩ := hf
        replace hf := b7s hf; obtain ⟨r553, T554, N555, Z556, S557, I558, R559, hk_560, hf⟩ := hf
        have hm_hk_560 := zX0_image hk_560
        have hm := zL_law_b1247 ih hf
        exact ⟨by omega, by omega⟩
      replace hf := if_f hf c551
      by_cases c562 : ((xs (x3).toNatClampNeg) &&& (ii 63)) = (ii 40)
      · replace hf := if_t hf c562
        replace hf := chk_s hf; obtain ⟨hq563, hf⟩ := hf
        replace hf := tg_s hf; obtain ⟨ht572, hf⟩ := hf
        replace hf := b7s hf; obtain ⟨r564, T565, N566, Z567, S568, I569, R570, hk_571, hf⟩ := hf
        have hm_hk_571 := zX0_back hk_571
        have hm := zL_law_b1270 ih hf
        exact ⟨by omega, by omega⟩
      replace hf := if_f hf c562
      by_cases c573 : ((xs (x3).toNatClampNeg) &&& (ii 63)) = (ii 41)
      · replace hf := if_t hf c573
        replace hf := chk_s hf; obtain ⟨hq574, hf⟩ := hf
        replace hf := tg_s hf; obtain ⟨ht577, hf⟩ := hf
        replace hf := bs hf; obtain ⟨r575, hk_576, hf⟩ := hf
        replace hf := chk_s hf; obtain ⟨hq578, hf⟩ := hf
        replace hf := tg_s hf; obtain ⟨ht582, hf⟩ := hf
        replace hf := b2s hf; obtain ⟨r579, I580, hk_581, hf⟩ := hf
        rcases (Decidable.em (r575 = r579)) with c583 | c583
        · replace hf := if_t hf c583
          replace hf := nm_s hf; obtain ⟨u584, hu584, hf⟩ := hf
          have hm := ih hf
          exact ⟨by omega, by omega⟩
        · replace hf := if_f hf c583
          cases hf
          exact ⟨Nat.le_refl _, Nat.le_refl _⟩
      replace hf := if_f hf c573
      by_cases c585 : ((xs (x3).toNatClampNeg) &&& (ii 63)) = (ii 42)
      · replace hf := if_t hf c585
        replace hf := tg_s hf; obtain ⟨ht588, hf⟩ := hf
        replace hf := bs hf; obtain ⟨r586, hk_587, hf⟩ := hf
        replace hf := tg_s hf; obtain ⟨ht592, hf⟩ := hf
        replace hf := b2s hf; obtain ⟨r589, I590, hk_591, hf⟩ := hf
        rcases (Decidable.em (r586 = r589)) with c593 | c593
        · replace hf := if_t hf c593
          replace hf := nm_s hf; obtain ⟨u594, hu594, hf⟩ := hf
          have hm := ih hf
          exact ⟨by omega, by omega⟩
        · replace hf := if_f hf c593
          cases hf
          exact ⟨Nat.le_refl _, Nat.le_refl _⟩
      replace hf := if_f hf c585
      replace hf := nm_s hf; obtain ⟨u595, hu595, hf⟩ := hf
      have hm := ih hf
      exact ⟨by omega, by omega⟩
set_option maxHeartbeats 400000 in
set_option maxRecDepth 100000 in
theorem wL_law_b18 {nf : Nat} {sb Ln : Nat} {xs : Nat → Int32} {kc ks : Nat} {p : Program} {l : Launch} {e : Env} {s : State} {m : MethodId} {args : Array Value} {below : List Frame} {meth : Method} {c : Code} {D : va_G} {dA : Nat → ClassId} {s0 : Nat}   {ro : Int32} {To : xT} {No : xT} {Zo : Nat} {So : Nat} {Io : xI} {Lo : xL} {Ro : xR} (X : Cx D dA s0 p m c cL_law 4 s args RL meth) (hr : meth.sig.returnType = some .boolean) (hXs : va_X sb Ln xs s s.heap ∧ sb < s0 ∧ s0 = s.heap.size)   (k : Nat) : ∀ {T : xT} {N : xT} {Z : Nat} {S : Nat} {I : xI} {L : xL} {R : xR} {x1 : Nat} {x2 : Nat} {x3 : Int32} {H : Heap} {locs : List Loc} {ls : Array Slot} {cells slots : Nat} , fL_law_b18 nf xs Ln (sv dA) k T N Z S I L R x1 x2 x3 = some (ro, To, No, Zo, So, Io, Lo, Ro) → Iv D dA s0 s T N Z I L R H locs → lv_has ls 4 [(0, .ref sb), (1, .ref x1), (2, .ref x2), (3, .int x3)] → cells + (Zo - Z) ≤ kc ∧ slots + (So - S) ≤ ks → W p l e { frames := 8192, cells := kc, slots := ks, locals := 100000 } s m args below meth c H locs cells slots (MQ below (xQ D dA s0 (some (.int ro)) To No Zo Io Lo Ro) args s kc ks (fun q => s0 ≤ q)) (F0 m 18 ls []) := by
  have hx := X.1.1
  have hb := X.1.2.1
  induction k with
  | zero =>
    intro T N Z S I L R x1 x2 x3 H locs ls cells slots hf V hl hB
    exact absurd (show none = some _ from hf) (fun q => nomatch q)
  | succ k ih =>
    intro T N Z S I L R x1 x2 x3 H locs ls cells slots hf V hl hB
    have ihm : ∀ {T : xT} {N : xT} {Z : Nat} {S : Nat} {I : xI} {L : xL} {R : xR} {x1 : Nat} {x2 : Nat} {x3 : Int32}, fL_law_b18 nf xs Ln (sv dA) k T N Z S I L R x1 x2 x3 = some (ro, To, No, Zo, So, Io, Lo, Ro) → Z ≤ Zo ∧ S ≤ So := zL_law_b18 k
    rw [fL_law_b18] at hf
    refine lv_iload_n (pc := 18) hx hb dL_law_18 rfl (lv_at hl 3 rfl) ?_
    refine lv_aload_n (pc := 19) hx hb dL_law_19 rfl (lv_at hl 0 rfl) ?_
    refine x_slen (pc := 20) X V hXs dL_law_20 ?_
    refine lv_bipush (pc := 21) (v := (ii 6)) hx hb dL_law_21 (by decide) ?_
    refine lv_isub (pc := 23) hx hb dL_law_23 ?_
    refine lv_icmp_gt (pc := 24) (tgt := 1326) hx hb dL_law_24 (by decide) (fun c1 => ?_) (fun c1 => ?_)
    · replace hf := if_t hf c1
      refine lv_iconst (pc := 1326) (v := (ii 1)) hx hb dL_law_1326 (by decide) ?_
      cases hf
      exact x_zretW (pc := 1327) X V hr (by omega) (by omega) (by decide) dL_law_1327
    · replace hf := if_f hf c1
      refine lv_aload_n (pc := 27) hx hb dL_law_27 rfl (lv_at hl 0 rfl) ?_
      refine lv_iload_n (pc := 28) hx hb dL_law_28 rfl (lv_at hl 3 rfl) ?_
      replace hf := chk_s hf; obtain ⟨hq2, hf⟩ := hf
      refine x_sld (pc := 29) X V hXs hq2 dL_law_29 ?_
      refine lv_bipush (pc := 30) (v := (ii 63)) hx hb dL_law_30 (by decide) ?_
      refine lv_iand (pc := 32) hx hb dL_law_32 ?_
      by_cases c3 : ((xs (x3).toNatClampNeg) &&& (ii 63)) = (ii 0)
      · replace hf := if_t hf c3
        refine x_tswIn (pc := 33) (tgt := 220) (off := 187) hx hb c3 dL_law_33 (by decide) (by decide) (by decide) (by decide) ?_
        refine lv_aload_n (pc := 220) hx hb dL_law_220 rfl (lv_at hl 1 rfl) ?_
        refine lv_aload_n (pc := 221) hx hb dL_law_221 rfl (lv_at hl 0 rfl) ?_
        refine lv_iload_n (pc := 222) hx hb dL_law_222 rfl (lv_at hl 3 rfl) ?_
        refine lv_iconst (pc := 223) (v := (ii 1)) hx hb dL_law_223 (by decide) ?_
        refine lv_iadd (pc := 224) hx hb dL_law_224 ?_
        replace hf := chk_s hf; obtain ⟨hq4, hf⟩ := hf
        refine x_sld (pc := 225) X V hXs hq4 dL_law_225 ?_
        refine lv_aload_n (pc := 226) hx hb dL_law_226 rfl (lv_at hl 0 rfl) ?_
        refine lv_iload_n (pc := 227) hx hb dL_law_227 rfl (lv_at hl 3 rfl) ?_
        refine lv_iconst (pc := 228) (v := (ii 2)) hx hb dL_law_228 (by decide) ?_
        refine lv_iadd (pc := 229) hx hb dL_law_229 ?_
        replace hf := chk_s hf; obtain ⟨hq5, hf⟩ := hf
        refine x_sld (pc := 230) X V hXs hq5 dL_law_230 ?_
        refine lv_aload_n (pc := 231) hx hb dL_law_231 rfl (lv_at hl 0 rfl) ?_
        refine lv_iload_n (pc := 232) hx hb dL_law_232 rfl (lv_at hl 3 rfl) ?_
        refine lv_iconst (pc := 233) (v := (ii 3)) hx hb dL_law_233 (by decide) ?_
        refine lv_iadd (pc := 234) hx hb dL_law_234 ?_
        replace hf := chk_s hf; obtain ⟨hq6, hf⟩ := hf
        refine x_sld (pc := 235) X V hXs hq6 dL_law_235 ?_
        refine lv_aload_n (pc := 236) hx hb dL_law_236 rfl (lv_at hl 0 rfl) ?_
        refine lv_iload_n (pc := 237) hx hb dL_law_237 rfl (lv_at hl 3 rfl) ?_
        refine lv_iconst (pc := 238) (v := (ii 4)) hx hb dL_law_238 (by decide) ?_
        refine lv_iadd (pc := 239) hx hb dL_law_239 ?_
        replace hf := chk_s hf; obtain ⟨hq7, hf⟩ := hf
        refine x_sld (pc := 240) X V hXs hq7 dL_law_240 ?_
        replace hf := tg_s hf; obtain ⟨ht11, hf⟩ := hf
        replace hf := b2s hf; obtain ⟨r8, I9, hk_10, hf⟩ := hf
        refine x_callV0 (pc := 241) (As := [.int (xs ((x3 + (ii 1))).toNatClampNeg), .int (xs ((x3 + (ii 2))).toNatClampNeg), .int (xs ((x3 + (ii 3))).toNatClampNeg), .int (xs ((x3 + (ii 4))).toNatClampNeg)]) (rest := []) X V (mX0_lane l D dA s0 hk_10) okX0 ht11 q554 q555 q556 q119 q557 ⟨rfl, hsX0_lane⟩ ⟨Nat.le_of_ble_eq_true rfl, Nat.le_of_ble_eq_true rfl⟩ rfl hl.1 rfl (Nat.le_of_ble_eq_true rfl) dL_law_241 ⟨by show cells ≤ kc; omega, by show slots ≤ ks; omega⟩ (fun H locs V => W.eq (g2 := F0 m 244 ls [.int r8]) rfl ?_)
        refine lv_aload_n (pc := 244) hx hb dL_law_244 rfl (lv_at hl 2 rfl) ?_
        refine lv_aload_n (pc := 245) hx hb dL_law_245 rfl (lv_at hl 0 rfl) ?_
        refine lv_iload_n (pc := 246) hx hb dL_law_246 rfl (lv_at hl 3 rfl) ?_
        refine lv_iconst (pc := 247) (v := (ii 1)) hx hb dL_law_247 (by decide) ?_
        refine lv_iadd (pc := 248) hx hb dL_law_248 ?_
        replace hf := chk_s hf; obtain ⟨hq12, hf⟩ := hf
        refine x_sld (pc := 249) X V hXs hq12 dL_law_249 ?_
        refine lv_aload_n (pc := 250) hx hb dL_law_250 rfl (lv_at hl 0 rfl) ?_
        refine lv_iload_n (pc := 251) hx hb dL_law_251 rfl (lv_at hl 3 rfl) ?_
        refine lv_iconst (pc := 252) (v := (ii 2)) hx hb dL_law_252 (by decide) ?_
        refine lv_iadd (pc := 253) hx hb dL_law_253 ?_
        replace hf := chk_s hf; obtain ⟨hq13, hf⟩ := hf
        refine x_sld (pc := 254) X V hXs hq13 dL_law_254 ?_
        refine lv_aload_n (pc := 255) hx hb dL_law_255 rfl (lv_at hl 0 rfl) ?_
        refine lv_iload_n (pc := 256) hx hb dL_law_256 rfl (lv_at hl 3 rfl) ?_
        refine lv_iconst (pc := 257) (v := (ii 3)) hx hb dL_law_257 (by decide) ?_
        refine lv_iadd (pc := 258) hx hb dL_law_258 ?_
        replace hf := chk_s hf; obtain ⟨hq14, hf⟩ := hf
        refine x_sld (pc := 259) X V hXs hq14 dL_law_259 ?_
        refine lv_aload_n (pc := 260) hx hb dL_law_260 rfl (lv_at hl 0 rfl) ?_
        refine lv_iload_n (pc := 261) hx hb dL_law_261 rfl (lv_at hl 3 rfl) ?_
        refine lv_iconst (pc := 262) (v := (ii 4)) hx hb dL_law_262 (by decide) ?_
        refine lv_iadd (pc := 263) hx hb dL_law_263 ?_
        replace hf := chk_s hf; obtain ⟨hq15, hf⟩ := hf
        refine x_sld (pc := 264) X V hXs hq15 dL_law_264 ?_
        replace hf := tg_s hf; obtain ⟨ht19, hf⟩ := hf
        replace hf := b2s hf; obtain ⟨r16, I17, hk_18, hf⟩ := hf
        refine x_callV0 (pc := 265) (As := [.int (xs ((x3 + (ii 1))).toNatClampNeg), .int (xs ((x3 + (ii 2))).toNatClampNeg), .int (xs ((x3 + (ii 3))).toNatClampNeg), .int (xs ((x3 + (ii 4))).toNatClampNeg)]) (rest := [.int r8]) X V (mX5_lane l D dA s0 hk_18) okX5 ht19 q1724 q1725 q1726 q129 q1727 ⟨rfl, hsX5_lane⟩ ⟨Nat.le_of_ble_eq_true rfl, Nat.le_of_ble_eq_true rfl⟩ rfl hl.1 rfl (Nat.le_of_ble_eq_true rfl) dL_law_265 ⟨by show cells ≤ kc; omega, by show slots ≤ ks; omega⟩ (fun H locs V => W.eq (g2 := F0 m 268 ls [.int r16, .int r8]) rfl ?_)
        refine lv_icmp_eq (pc := 268) (tgt := 1320) hx hb dL_law_268 (by decide) (fun c20 => ?_) (fun c20 => ?_)
        · replace hf := if_t hf c20
          replace hf := nm_s hf; obtain ⟨u21, hu21, hf⟩ := hf
          refine lv_iinc (pc := 1320) (v := u21) (lv' := [(3, .int u21), (0, .ref sb), (1, .ref x1), (2, .ref x2)]) hx hb dL_law_1320 hl (k := 3) rfl (by rw [hu21]; rfl) (by decide) rfl (fun ls hl => ?_)
          refine lv_goto (pc := 1323) (tgt := 18) hx hb dL_law_1323 (by decide) ?_
          exact ih hf V (lv_sub hl [1, 2, 3, 0] rfl) ⟨by omega, by omega⟩
        · replace hf := if_f hf c20
          refine lv_iconst (pc := 271) (v := (ii 0)) hx hb dL_law_271 (by decide) ?_
          cases hf
          exact x_zretW (pc := 272) X V hr (by omega) (by omega) (by decide) dL_law_272
      replace hf := if_f hf c3
      by_cases c22 : ((xs (x3).toNatClampNeg) &&& (ii 63)) = (ii 1)
      · replace hf := if_t hf c22
        refine x_tswIn (pc := 33) (tgt := 273) (off := 240) hx hb c22 dL_law_33 (by decide) (by decide) (by decide) (by decide) ?_
        refine lv_aload_n (pc := 273) hx hb dL_law_273 rfl (lv_at hl 1 rfl) ?_
        refine lv_aload_n (pc := 274) hx hb dL_law_274 rfl (lv_at hl 0 rfl) ?_
        refine lv_iload_n (pc := 275) hx hb dL_law_275 rfl (lv_at hl 3 rfl) ?_
        refine lv_iconst (pc := 276) (v := (ii 1)) hx hb dL_law_276 (by decide) ?_
        refine lv_iadd (pc := 277) hx hb dL_law_277 ?_
        replace hf := chk_s hf; obtain ⟨hq23, hf⟩ := hf
        refine x_sld (pc := 278) X V hXs hq23 dL_law_278 ?_
        refine lv_aload_n (pc := 279) hx hb dL_law_279 rfl (lv_at hl 0 rfl) ?_
        refine lv_iload_n (pc := 280) hx hb dL_law_280 rfl (lv_at hl 3 rfl) ?_
        refine lv_iconst (pc := 281) (v := (ii 2)) hx hb dL_law_281 (by decide) ?_
        refine lv_iadd (pc := 282) hx hb dL_law_282 ?_
        replace hf := chk_s hf; obtain ⟨hq24, hf⟩ := hf
        refine x_sld (pc := 283) X V hXs hq24 dL_law_283 ?_
        replace hf := tg_s hf; obtain ⟨ht27, hf⟩ := hf
        replace hf := bs hf; obtain ⟨r25, hk_26, hf⟩ := hf
        refine x_callV0 (pc := 284) (As := [.int (xs ((x3 + (ii 1))).toNatClampNeg), .int (xs ((x3 + (ii 2))).toNatClampNeg)]) (rest := []) X V (mX0_at l D dA s0 hk_26) okX0 ht27 q572 q573 q574 q119 q575 ⟨rfl, hsX0_at⟩ ⟨Nat.le_of_ble_eq_true rfl, Nat.le_of_ble_eq_true rfl⟩ rfl hl.1 rfl (Nat.le_of_ble_eq_true rfl) dL_law_284 ⟨by show cells ≤ kc; omega, by show slots ≤ ks; omega⟩ (fun H locs V => W.eq (g2 := F0 m 287 ls [.int r25]) rfl ?_)
        refine lv_aload_n (pc := 287) hx hb dL_law_287 rfl (lv_at hl 2 rfl) ?_
        refine lv_aload_n (pc := 288) hx hb dL_law_288 rfl (lv_at hl 0 rfl) ?_
        refine lv_iload_n (pc := 289) hx hb dL_law_289 rfl (lv_at hl 3 rfl) ?_
        refine lv_iconst (pc := 290) (v := (ii 1)) hx hb dL_law_290 (by decide) ?_
        refine lv_iadd (pc := 291) hx hb dL_law_291 ?_
        replace hf := chk_s hf; obtain ⟨hq28, hf⟩ := hf
        refine x_sld (pc := 292) X V hXs hq28 dL_law_292 ?_
        refine lv_aload_n (pc := 293) hx hb dL_law_293 rfl (lv_at hl 0 rfl) ?_
        refine lv_iload_n (pc := 294) hx hb dL_law_294 rfl (lv_at hl 3 rfl) ?_
        refine lv_iconst (pc := 295) (v := (ii 2)) hx hb dL_law_295 (by decide) ?_
        refine lv_iadd (pc := 296) hx hb dL_law_296 ?_
        replace hf := chk_s hf; obtain ⟨hq29, hf⟩ := hf
        refine x_sld (pc := 297) X V hXs hq29 dL_law_297 ?_
        replace hf := tg_s hf; obtain ⟨ht33, hf⟩ := hf
        replace hf := b2s hf; obtain ⟨r30, I31, hk_32, hf⟩ := hf
        refine x_callV0 (pc := 298) (As := [.int (xs ((x3 + (ii 1))).toNatClampNeg), .int (xs ((x3 + (ii 2))).toNatClampNeg)]) (rest := [.int r25]) X V (mX5_at l D dA s0 hk_32) okX5 ht33 q1738 q1739 q1740 q129 q1741 ⟨rfl, hsX5_at⟩ ⟨Nat.le_of_ble_eq_true rfl, Nat.le_of_ble_eq_true rfl⟩ rfl hl.1 rfl (Nat.le_of_ble_eq_true rfl) dL_law_298 ⟨by show cells ≤ kc; omega, by show slots ≤ ks; omega⟩ (fun H locs V => W.eq (g2 := F0 m 301 ls [.int r30, .int r25]) rfl ?_)
        refine lv_icmp_eq (pc := 301) (tgt := 1320) hx hb dL_law_301 (by decide) (fun c34 => ?_) (fun c34 => ?_)
        · replace hf := if_t hf c34
          replace hf := nm_s hf; obtain ⟨u35, hu35, hf⟩ := hf
          refine lv_iinc (pc := 1320) (v := u35) (lv' := [(3, .int u35), (0, .ref sb), (1, .ref x1), (2, .ref x2)]) hx hb dL_law_1320 hl (k := 3) rfl (by rw [hu35]; rfl) (by decide) rfl (fun ls hl => ?_)
          refine lv_goto (pc := 1323) (tgt := 18) hx hb dL_law_1323 (by decide) ?_
          exact ih hf V (lv_sub hl [1, 2, 3, 0] rfl) ⟨by omega, by omega⟩
        · replace hf := if_f hf c34
          refine lv_iconst (pc := 304) (v := (ii 0)) hx hb dL_law_304 (by decide) ?_
          cases hf
          exact x_zretW (pc := 305) X V hr (by omega) (by omega) (by decide) dL_law_305
      replace hf := if_f hf c22
      by_cases c36 : ((xs (x3).toNatClampNeg) &&& (ii 63)) = (ii 2)
      · replace hf := if_t hf c36
        refine x_tswIn (pc := 33) (tgt := 306) (off := 273) hx hb c36 dL_law_33 (by decide) (by decide) (by decide) (by decide) ?_
        refine lv_aload_n (pc := 306) hx hb dL_law_306 rfl (lv_at hl 1 rfl) ?_
        refine lv_aload_n (pc := 307) hx hb dL_law_307 rfl (lv_at hl 0 rfl) ?_
        refine lv_iload_n (pc := 308) hx hb dL_law_308 rfl (lv_at hl 3 rfl) ?_
        refine lv_iconst (pc := 309) (v := (ii 1)) hx hb dL_law_309 (by decide) ?_
        refine lv_iadd (pc := 310) hx hb dL_law_310 ?_
        replace hf := chk_s hf; obtain ⟨hq37, hf⟩ := hf
        refine x_sld (pc := 311) X V hXs hq37 dL_law_311 ?_
        refine lv_aload_n (pc := 312) hx hb dL_law_312 rfl (lv_at hl 0 rfl) ?_
        refine lv_iload_n (pc := 313) hx hb dL_law_313 rfl (lv_at hl 3 rfl) ?_
        refine lv_iconst (pc := 314) (v := (ii 2)) hx hb dL_law_314 (by decide) ?_
        refine lv_iadd (pc := 315) hx hb dL_law_315 ?_
        replace hf := chk_s hf; obtain ⟨hq38, hf⟩ := hf
        refine x_sld (pc := 316) X V hXs hq38 dL_law_316 ?_
        replace hf := tg_s hf; obtain ⟨ht42, hf⟩ := hf
        replace hf := b2s hf; obtain ⟨r39, I40, hk_41, hf⟩ := hf
        refine x_callV0 (pc := 317) (As := [.int (xs ((x3 + (ii 1))).toNatClampNeg), .int (xs ((x3 + (ii 2))).toNatClampNeg)]) (rest := []) X V (mX0_child l D dA s0 hk_41) okX0 ht42 q580 q581 q582 q119 q583 ⟨rfl, hsX0_child⟩ ⟨Nat.le_of_ble_eq_true rfl, Nat.le_of_ble_eq_true rfl⟩ rfl hl.1 rfl (Nat.le_of_ble_eq_true rfl) dL_law_317 ⟨by show cells ≤ kc; omega, by show slots ≤ ks; omega⟩ (fun H locs V => W.eq (g2 := F0 m 320 ls [.int r39]) rfl ?_)
        refine lv_aload_n (pc := 320) hx hb dL_law_320 rfl (lv_at hl 2 rfl) ?_
        refine lv_aload_n (pc := 321) hx hb dL_law_321 rfl (lv_at hl 0 rfl) ?_
        refine lv_iload_n (pc := 322) hx hb dL_law_322 rfl (lv_at hl 3 rfl) ?_
        refine lv_iconst (pc := 323) (v := (ii 1)) hx hb dL_law_323 (by decide) ?_
        refine lv_iadd (pc := 324) hx hb dL_law_324 ?_
        replace hf := chk_s hf; obtain ⟨hq43, hf⟩ := hf
        refine x_sld (pc := 325) X V hXs hq43 dL_law_325 ?_
        refine lv_aload_n (pc := 326) hx hb dL_law_326 rfl (lv_at hl 0 rfl) ?_
        refine lv_iload_n (pc := 327) hx hb dL_law_327 rfl (lv_at hl 3 rfl) ?_
        refine lv_iconst (pc := 328) (v := (ii 2)) hx hb dL_law_328 (by decide) ?_
        refine lv_iadd (pc := 329) hx hb dL_law_329 ?_
        replace hf := chk_s hf; obtain ⟨hq44, hf⟩ := hf
        refine x_sld (pc := 330) X V hXs hq44 dL_law_330 ?_
        replace hf := tg_s hf; obtain ⟨ht48, hf⟩ := hf
        replace hf := b2s hf; obtain ⟨r45, I46, hk_47, hf⟩ := hf
        refine x_callV0 (pc := 331) (As := [.int (xs ((x3 + (ii 1))).toNatClampNeg), .int (xs ((x3 + (ii 2))).toNatClampNeg)]) (rest := [.int r39]) X V (mX5_child l D dA s0 hk_47) okX5 ht48 q1746 q1747 q1748 q129 q1749 ⟨rfl, hsX5_child⟩ ⟨Nat.le_of_ble_eq_true rfl, Nat.le_of_ble_eq_true rfl⟩ rfl hl.1 rfl (Nat.le_of_ble_eq_true rfl) dL_law_331 ⟨by show cells ≤ kc; omega, by show slots ≤ ks; omega⟩ (fun H locs V => W.eq (g2 := F0 m 334 ls [.int r45, .int r39]) rfl ?_)
        refine lv_icmp_eq (pc := 334) (tgt := 1320) hx hb dL_law_334 (by decide) (fun c49 => ?_) (fun c49 => ?_)
        · replace hf := if_t hf c49
          replace hf := nm_s hf; obtain ⟨u50, hu50, hf⟩ := hf
          refine lv_iinc (pc := 1320) (v := u50) (lv' := [(3, .int u50), (0, .ref sb), (1, .ref x1), (2, .ref x2)]) hx hb dL_law_1320 hl (k := 3) rfl (by rw [hu50]; rfl) (by decide) rfl (fun ls hl => ?_)
          refine lv_goto (pc := 1323) (tgt := 18) hx hb dL_law_1323 (by decide) ?_
          exact ih hf V (lv_sub hl [1, 2, 3, 0] rfl) ⟨by omega, by omega⟩
        · replace hf := if_f hf c49
          refine lv_iconst (pc := 337) (v := (ii 0)) hx hb dL_law_337 (by decide) ?_
          cases hf
          exact x_zretW (pc := 338) X V hr (by omega) (by omega) (by decide) dL_law_338
      replace hf := if_f hf c36
      by_cases c51 : ((xs (x3).toNatClampNeg) &&& (ii 63)) = (ii 3)
      · replace hf := if_t hf c51
        refine x_tswIn (pc := 33) (tgt := 339) (off := 306) hx hb c51 dL_law_33 (by decide) (by decide) (by decide) (by decide) ?_
        refine lv_aload_n (pc := 339) hx hb dL_law_339 rfl (lv_at hl 1 rfl) ?_
        refine lv_aload_n (pc := 340) hx hb dL_law_340 rfl (lv_at hl 0 rfl) ?_
        refine lv_iload_n (pc := 341) hx hb dL_law_341 rfl (lv_at hl 3 rfl) ?_
        refine lv_iconst (pc := 342) (v := (ii 1)) hx hb dL_law_342 (by decide) ?_
        refine lv_iadd (pc := 343) hx hb dL_law_343 ?_
        replace hf := chk_s hf; obtain ⟨hq52, hf⟩ := hf
        refine x_sld (pc := 344) X V hXs hq52 dL_law_344 ?_
        refine lv_aload_n (pc := 345) hx hb dL_law_345 rfl (lv_at hl 0 rfl) ?_
        refine lv_iload_n (pc := 346) hx hb dL_law_346 rfl (lv_at hl 3 rfl) ?_
        refine lv_iconst (pc := 347) (v := (ii 2)) hx hb dL_law_347 (by decide) ?_
        refine lv_iadd (pc := 348) hx hb dL_law_348 ?_
        replace hf := chk_s hf; obtain ⟨hq53, hf⟩ := hf
        refine x_sld (pc := 349) X V hXs hq53 dL_law_349 ?_
        replace hf := tg_s hf; obtain ⟨ht58, hf⟩ := hf
        replace hf := b3s hf; obtain ⟨r54, I55, L56, hk_57, hf⟩ := hf
        refine x_callV0 (pc := 350) (As := [.int (xs ((x3 + (ii 1))).toNatClampNeg), .int (xs ((x3 + (ii 2))).toNatClampNeg)]) (rest := []) X V (mX0_of l D dA s0 hk_57) okX0 ht58 q584 q585 q586 q119 q587 ⟨rfl, hsX0_of⟩ ⟨Nat.le_of_ble_eq_true rfl, Nat.le_of_ble_eq_true rfl⟩ rfl hl.1 rfl (Nat.le_of_ble_eq_true rfl) dL_law_350 ⟨by show cells ≤ kc; omega, by show slots ≤ ks; omega⟩ (fun H locs V => W.eq (g2 := F0 m 353 ls [.int r54]) rfl ?_)
        refine lv_aload_n (pc := 353) hx hb dL_law_353 rfl (lv_at hl 2 rfl) ?_
        refine lv_aload_n (pc := 354) hx hb dL_law_354 rfl (lv_at hl 0 rfl) ?_
        refine lv_iload_n (pc := 355) hx hb dL_law_355 rfl (lv_at hl 3 rfl) ?_
        refine lv_iconst (pc := 356) (v := (ii 1)) hx hb dL_law_356 (by decide) ?_
        refine lv_iadd (pc := 357) hx hb dL_law_357 ?_
        replace hf := chk_s hf; obtain ⟨hq59, hf⟩ := hf
        refine x_sld (pc := 358) X V hXs hq59 dL_law_358 ?_
        refine lv_aload_n (pc := 359) hx hb dL_law_359 rfl (lv_at hl 0 rfl) ?_
        refine lv_iload_n (pc := 360) hx hb dL_law_360 rfl (lv_at hl 3 rfl) ?_
        refine lv_iconst (pc := 361) (v := (ii 2)) hx hb dL_law_361 (by decide) ?_
        refine lv_iadd (pc := 362) hx hb dL_law_362 ?_
        replace hf := chk_s hf; obtain ⟨hq60, hf⟩ := hf
        refine x_sld (pc := 363) X V hXs hq60 dL_law_363 ?_
        replace hf := tg_s hf; obtain ⟨ht65, hf⟩ := hf
        replace hf := b3s hf; obtain ⟨r61, I62, L63, hk_64, hf⟩ := hf
        refine x_callV0 (pc := 364) (As := [.int (xs ((x3 + (ii 1))).toNatClampNeg), .int (xs ((x3 + (ii 2))).toNatClampNeg)]) (rest := [.int r54]) X V (mX5_of l D dA s0 hk_64) okX5 ht65 q1750 q1751 q1752 q129 q1753 ⟨rfl, hsX5_of⟩ ⟨Nat.le_of_ble_eq_true rfl, Nat.le_of_ble_eq_true rfl⟩ rfl hl.1 rfl (Nat.le_of_ble_eq_true rfl) dL_law_364 ⟨by show cells ≤ kc; omega, by show slots ≤ ks; omega⟩ (fun H locs V => W.eq (g2 := F0 m 367 ls [.int r61, .int r54]) rfl ?_)
        refine lv_icmp_eq (pc := 367) (tgt := 1320) hx hb dL_law_367 (by decide) (fun c66 => ?_) (fun c66 => ?_)
        · replace hf := if_t hf c66
          replace hf := nm_s hf; obtain ⟨u67, hu67, hf⟩ := hf
          refine lv_iinc (pc := 1320) (v := u67) (lv' := [(3, .int u67), (0, .ref sb), (1, .ref x1), (2, .ref x2)]) hx hb dL_law_1320 hl (k := 3) rfl (by rw [hu67]; rfl) (by decide) rfl (fun ls hl => ?_)
          refine lv_goto (pc := 1323) (tgt := 18) hx hb dL_law_1323 (by decide) ?_
          exact ih hf V (lv_sub hl [1, 2, 3, 0] rfl) ⟨by omega, by omega⟩
        · replace hf := if_f hf c66
          refine lv_iconst (pc := 370) (v := (ii 0)) hx hb dL_law_370 (by decide) ?_
          cases hf
          exact x_zretW (pc := 371) X V hr (by omega) (by omega) (by decide) dL_law_371
      replace hf := if_f hf c51
      by_cases c68 : ((xs (x3).toNatClampNeg) &&& (ii 63)) = (ii 4)
      · replace hf := if_t hf c68
        refine x_tswIn (pc := 33) (tgt := 372) (off := 339) hx hb c68 dL_law_33 (by decide) (by decide) (by decide) (by decide) ?_
        refine lv_aload_n (pc := 372) hx hb dL_law_372 rfl (lv_at hl 1 rfl) ?_
        refine lv_aload_n (pc := 373) hx hb dL_law_373 rfl (lv_at hl 0 rfl) ?_
        refine lv_iload_n (pc := 374) hx hb dL_law_374 rfl (lv_at hl 3 rfl) ?_
        refine lv_iconst (pc := 375) (v := (ii 1)) hx hb dL_law_375 (by decide) ?_
        refine lv_iadd (pc := 376) hx hb dL_law_376 ?_
        replace hf := chk_s hf; obtain ⟨hq69, hf⟩ := hf
        refine x_sld (pc := 377) X V hXs hq69 dL_law_377 ?_
        refine lv_aload_n (pc := 378) hx hb dL_law_378 rfl (lv_at hl 0 rfl) ?_
        refine lv_iload_n (pc := 379) hx hb dL_law_379 rfl (lv_at hl 3 rfl) ?_
        refine lv_iconst (pc := 380) (v := (ii 2)) hx hb dL_law_380 (by decide) ?_
        refine lv_iadd (pc := 381) hx hb dL_law_381 ?_
        replace hf := chk_s hf; obtain ⟨hq70, hf⟩ := hf
        refine x_sld (pc := 382) X V hXs hq70 dL_law_382 ?_
        refine lv_aload_n (pc := 383) hx hb dL_law_383 rfl (lv_at hl 0 rfl) ?_
        refine lv_iload_n (pc := 384) hx hb dL_law_384 rfl (lv_at hl 3 rfl) ?_
        refine lv_iconst (pc := 385) (v := (ii 3)) hx hb dL_law_385 (by decide) ?_
        refine lv_iadd (pc := 386) hx hb dL_law_386 ?_
        replace hf := chk_s hf; obtain ⟨hq71, hf⟩ := hf
        refine x_sld (pc := 387) X V hXs hq71 dL_law_387 ?_
        replace hf := tg_s hf; obtain ⟨ht75, hf⟩ := hf
        replace hf := b2s hf; obtain ⟨r72, L73, hk_74, hf⟩ := hf
        refine x_callV0 (pc := 388) (As := [.int (xs ((x3 + (ii 1))).toNatClampNeg), .int (xs ((x3 + (ii 2))).toNatClampNeg), .int (xs ((x3 + (ii 3))).toNatClampNeg)]) (rest := []) X V (mX0_asks l D dA s0 hk_74) okX0 ht75 q691 q692 q693 q119 q694 ⟨rfl, hsX0_asks⟩ ⟨Nat.le_of_ble_eq_true rfl, Nat.le_of_ble_eq_true rfl⟩ rfl hl.1 rfl (Nat.le_of_ble_eq_true rfl) dL_law_388 ⟨by show cells ≤ kc; omega, by show slots ≤ ks; omega⟩ (fun H locs V => W.eq (g2 := F0 m 391 ls [.int r72]) rfl ?_)
        refine lv_aload_n (pc := 391) hx hb dL_law_391 rfl (lv_at hl 2 rfl) ?_
        refine lv_aload_n (pc := 392) hx hb dL_law_392 rfl (lv_at hl 0 rfl) ?_
        refine lv_iload_n (pc := 393) hx hb dL_law_393 rfl (lv_at hl 3 rfl) ?_
        refine lv_iconst (pc := 394) (v := (ii 1)) hx hb dL_law_394 (by decide) ?_
        refine lv_iadd (pc := 395) hx hb dL_law_395 ?_
        replace hf := chk_s hf; obtain ⟨hq76, hf⟩ := hf
        refine x_sld (pc := 396) X V hXs hq76 dL_law_396 ?_
        refine lv_aload_n (pc := 397) hx hb dL_law_397 rfl (lv_at hl 0 rfl) ?_
        refine lv_iload_n (pc := 398) hx hb dL_law_398 rfl (lv_at hl 3 rfl) ?_
        refine lv_iconst (pc := 399) (v := (ii 2)) hx hb dL_law_399 (by decide) ?_
        refine lv_iadd (pc := 400) hx hb dL_law_400 ?_
        replace hf := chk_s hf; obtain ⟨hq77, hf⟩ := hf
        refine x_sld (pc := 401) X V hXs hq77 dL_law_401 ?_
        refine lv_aload_n (pc := 402) hx hb dL_law_402 rfl (lv_at hl 0 rfl) ?_
        refine lv_iload_n (pc := 403) hx hb dL_law_403 rfl (lv_at hl 3 rfl) ?_
        refine lv_iconst (pc := 404) (v := (ii 3)) hx hb dL_law_404 (by decide) ?_
        refine lv_iadd (pc := 405) hx hb dL_law_405 ?_
        replace hf := chk_s hf; obtain ⟨hq78, hf⟩ := hf
        refine x_sld (pc := 406) X V hXs hq78 dL_law_406 ?_
        replace hf := tg_s hf; obtain ⟨ht83, hf⟩ := hf
        replace hf := b3s hf; obtain ⟨r79, I80, L81, hk_82, hf⟩ := hf
        refine x_callV0 (pc := 407) (As := [.int (xs ((x3 + (ii 1))).toNatClampNeg), .int (xs ((x3 + (ii 2))).toNatClampNeg), .int (xs ((x3 + (ii 3))).toNatClampNeg)]) (rest := [.int r72]) X V (mX5_asks l D dA s0 hk_82) okX5 ht83 q1800 q1801 q1802 q129 q1803 ⟨rfl, hsX5_asks⟩ ⟨Nat.le_of_ble_eq_true rfl, Nat.le_of_ble_eq_true rfl⟩ rfl hl.1 rfl (Nat.le_of_ble_eq_true rfl) dL_law_407 ⟨by show cells ≤ kc; omega, by show slots ≤ ks; omega⟩ (fun H locs V => W.eq (g2 := F0 m 410 ls [.int r79, .int r72]) rfl ?_)
        refine lv_icmp_eq (pc := 410) (tgt := 1320) hx hb dL_law_410 (by decide) (fun c84 => ?_) (fun c84 => ?_)
        · replace hf := if_t hf c84
          replace hf := nm_s hf; obtain ⟨u85, hu85, hf⟩ := hf
          refine lv_iinc (pc := 1320) (v := u85) (lv' := [(3, .int u85), (0, .ref sb), (1, .ref x1), (2, .ref x2)]) hx hb dL_law_1320 hl (k := 3) rfl (by rw [hu85]; rfl) (by decide) rfl (fun ls hl => ?_)
          refine lv_goto (pc := 1323) (tgt := 18) hx hb dL_law_1323 (by decide) ?_
          exact ih hf V (lv_sub hl [1, 2, 3, 0] rfl) ⟨by omega, by omega⟩
        · replace hf := if_f hf c84
          refine lv_iconst (pc := 413) (v := (ii 0)) hx hb dL_law_413 (by decide) ?_
          cases hf
          exact x_zretW (pc := 414) X V hr (by omega) (by omega) (by decide) dL_law_414
      replace hf := if_f hf c68
      by_cases c86 : ((xs (x3).toNatClampNeg) &&& (ii 63)) = (ii 5)
      · replace hf := if_t hf c86
        refine x_tswIn (pc := 33) (tgt := 415) (off := 382) hx hb c86 dL_law_33 (by decide) (by decide) (by decide) (by decide) ?_
        refine lv_aload_n (pc := 415) hx hb dL_law_415 rfl (lv_at hl 1 rfl) ?_
        refine lv_aload_n (pc := 416) hx hb dL_law_416 rfl (lv_at hl 0 rfl) ?_
        refine lv_iload_n (pc := 417) hx hb dL_law_417 rfl (lv_at hl 3 rfl) ?_
        refine lv_iconst (pc := 418) (v := (ii 1)) hx hb dL_law_418 (by decide) ?_
        refine lv_iadd (pc := 419) hx hb dL_law_419 ?_
        replace hf := chk_s hf; obtain ⟨hq87, hf⟩ := hf
        refine x_sld (pc := 420) X V hXs hq87 dL_law_420 ?_
        refine lv_aload_n (pc := 421) hx hb dL_law_421 rfl (lv_at hl 0 rfl) ?_
        refine lv_iload_n (pc := 422) hx hb dL_law_422 rfl (lv_at hl 3 rfl) ?_
        refine lv_iconst (pc := 423) (v := (ii 2)) hx hb dL_law_423 (by decide) ?_
        refine lv_iadd (pc := 424) hx hb dL_law_424 ?_
        replace hf := chk_s hf; obtain ⟨hq88, hf⟩ := hf
        refine x_sld (pc := 425) X V hXs hq88 dL_law_425 ?_
        replace hf := tg_s hf; obtain ⟨ht92, hf⟩ := hf
        replace hf := b2s hf; obtain ⟨r89, I90, hk_91, hf⟩ := hf
        refine x_callV0 (pc := 426) (As := [.int (xs ((x3 + (ii 1))).toNatClampNeg), .int (xs ((x3 + (ii 2))).toNatClampNeg)]) (rest := []) X V (mX0_terms l D dA s0 hk_91) okX0 ht92 q699 q700 q701 q119 q702 ⟨rfl, hsX0_terms⟩ ⟨Nat.le_of_ble_eq_true rfl, Nat.le_of_ble_eq_true rfl⟩ rfl hl.1 rfl (Nat.le_of_ble_eq_true rfl) dL_law_426 ⟨by show cells ≤ kc; omega, by show slots ≤ ks; omega⟩ (fun H locs V => W.eq (g2 := F0 m 429 ls [.int r89]) rfl ?_)
        refine lv_aload_n (pc := 429) hx hb dL_law_429 rfl (lv_at hl 2 rfl) ?_
        refine lv_aload_n (pc := 430) hx hb dL_law_430 rfl (lv_at hl 0 rfl) ?_
        refine lv_iload_n (pc := 431) hx hb dL_law_431 rfl (lv_at hl 3 rfl) ?_
        refine lv_iconst (pc := 432) (v := (ii 1)) hx hb dL_law_432 (by decide) ?_
        refine lv_iadd (pc := 433) hx hb dL_law_433 ?_
        replace hf := chk_s hf; obtain ⟨hq93, hf⟩ := hf
        refine x_sld (pc := 434) X V hXs hq93 dL_law_434 ?_
        refine lv_aload_n (pc := 435) hx hb dL_law_435 rfl (lv_at hl 0 rfl) ?_
        refine lv_iload_n (pc := 436) hx hb dL_law_436 rfl (lv_at hl 3 rfl) ?_
        refine lv_iconst (pc := 437) (v := (ii 2)) hx hb dL_law_437 (by decide) ?_
        refine lv_iadd (pc := 438) hx hb dL_law_438 ?_
        replace hf := chk_s hf; obtain ⟨hq94, hf⟩ := hf
        refine x_sld (pc := 439) X V hXs hq94 dL_law_439 ?_
        replace hf := tg_s hf; obtain ⟨ht98, hf⟩ := hf
        replace hf := b2s hf; obtain ⟨r95, I96, hk_97, hf⟩ := hf
        refine x_callV0 (pc := 440) (As := [.int (xs ((x3 + (ii 1))).toNatClampNeg), .int (xs ((x3 + (ii 2))).toNatClampNeg)]) (rest := [.int r89]) X V (mX5_terms l D dA s0 hk_97) okX5 ht98 q1808 q1809 q1810 q129 q1811 ⟨rfl, hsX5_terms⟩ ⟨Nat.le_of_ble_eq_true rfl, Nat.le_of_ble_eq_true rfl⟩ rfl hl.1 rfl (Nat.le_of_ble_eq_true rfl) dL_law_440 ⟨by show cells ≤ kc; omega, by show slots ≤ ks; omega⟩ (fun H locs V => W.eq (g2 := F0 m 443 ls [.int r95, .int r89]) rfl ?_)
        refine lv_icmp_eq (pc := 443) (tgt := 1320) hx hb dL_law_443 (by decide) (fun c99 => ?_) (fun c99 => ?_)
        · replace hf := if_t hf c99
          replace hf := nm_s hf; obtain ⟨u100, hu100, hf⟩ := hf
          refine lv_iinc (pc := 1320) (v := u100) (lv' := [(3, .int u100), (0, .ref sb), (1, .ref x1), (2, .ref x2)]) hx hb dL_law_1320 hl (k := 3) rfl (by rw [hu100]; rfl) (by decide) rfl (fun ls hl => ?_)
          refine lv_goto (pc := 1323) (tgt := 18) hx hb dL_law_1323 (by decide) ?_
          exact ih hf V (lv_sub hl [1, 2, 3, 0] rfl) ⟨by omega, by omega⟩
        · replace hf := if_f hf c99
          refine lv_iconst (pc := 446) (v := (ii 0)) hx hb dL_law_446 (by decide) ?_
          cases hf
          exact x_zretW (pc := 447) X V hr (by omega) (by omega) (by decide) dL_law_447
      replace hf := if_f hf c86
      by_cases c101 : ((xs (x3).toNatClampNeg) &&& (ii 63)) = (ii 6)
      · replace hf := if_t hf c101
        refine x_tswIn (pc := 33) (tgt := 448) (off := 415) hx hb c101 dL_law_33 (by decide) (by decide) (by decide) (by decide) ?_
        refine lv_aload_n (pc := 448) hx hb dL_law_448 rfl (lv_at hl 1 rfl) ?_
        refine lv_aload_n (pc := 449) hx hb dL_law_449 rfl (lv_at hl 0 rfl) ?_
        refine lv_iload_n (pc := 450) hx hb dL_law_450 rfl (lv_at hl 3 rfl) ?_
        refine lv_iconst (pc := 451) (v := (ii 1)) hx hb dL_law_451 (by decide) ?_
        refine lv_iadd (pc := 452) hx hb dL_law_452 ?_
        replace hf := chk_s hf; obtain ⟨hq102, hf⟩ := hf
        refine x_sld (pc := 453) X V hXs hq102 dL_law_453 ?_
        refine lv_aload_n (pc := 454) hx hb dL_law_454 rfl (lv_at hl 0 rfl) ?_
        refine lv_iload_n (pc := 455) hx hb dL_law_455 rfl (lv_at hl 3 rfl) ?_
        refine lv_iconst (pc := 456) (v := (ii 2)) hx hb dL_law_456 (by decide) ?_
        refine lv_iadd (pc := 457) hx hb dL_law_457 ?_
        replace hf := chk_s hf; obtain ⟨hq103, hf⟩ := hf
        refine x_sld (pc := 458) X V hXs hq103 dL_law_458 ?_
        refine lv_aload_n (pc := 459) hx hb dL_law_459 rfl (lv_at hl 0 rfl) ?_
        refine lv_iload_n (pc := 460) hx hb dL_law_460 rfl (lv_at hl 3 rfl) ?_
        refine lv_iconst (pc := 461) (v := (ii 3)) hx hb dL_law_461 (by decide) ?_
        refine lv_iadd (pc := 462) hx hb dL_law_462 ?_
        replace hf := chk_s hf; obtain ⟨hq104, hf⟩ := hf
        refine x_sld (pc := 463) X V hXs hq104 dL_law_463 ?_
        refine lv_aload_n (pc := 464) hx hb dL_law_464 rfl (lv_at hl 0 rfl) ?_
        refine lv_iload_n (pc := 465) hx hb dL_law_465 rfl (lv_at hl 3 rfl) ?_
        refine lv_iconst (pc := 466) (v := (ii 4)) hx hb dL_law_466 (by decide) ?_
        refine lv_iadd (pc := 467) hx hb dL_law_467 ?_
        replace hf := chk_s hf; obtain ⟨hq105, hf⟩ := hf
        refine x_sld (pc := 468) X V hXs hq105 dL_law_468 ?_
        refine lv_aload_n (pc := 469) hx hb dL_law_469 rfl (lv_at hl 0 rfl) ?_
        refine lv_iload_n (pc := 470) hx hb dL_law_470 rfl (lv_at hl 3 rfl) ?_
        refine lv_iconst (pc := 471) (v := (ii 5)) hx hb dL_law_471 (by decide) ?_
        refine lv_iadd (pc := 472) hx hb dL_law_472 ?_
        replace hf := chk_s hf; obtain ⟨hq106, hf⟩ := hf
        refine x_sld (pc := 473) X V hXs hq106 dL_law_473 ?_
        replace hf := tg_s hf; obtain ⟨ht110, hf⟩ := hf
        replace hf := b2s hf; obtain ⟨r107, I108, hk_109, hf⟩ := hf
        refine x_callV0 (pc := 474) (As := [.int (xs ((x3 + (ii 1))).toNatClampNeg), .int (xs ((x3 + (ii 2))).toNatClampNeg), .int (xs ((x3 + (ii 3))).toNatClampNeg), .int (xs ((x3 + (ii 4))).toNatClampNeg), .int (xs ((x3 + (ii 5))).toNatClampNeg)]) (rest := []) X V (mX0_feed l D dA s0 hk_109) okX0 ht110 q703 q704 q705 q119 q706 ⟨rfl, hsX0_feed⟩ ⟨Nat.le_of_ble_eq_true rfl, Nat.le_of_ble_eq_true rfl⟩ rfl hl.1 rfl (Nat.le_of_ble_eq_true rfl) dL_law_474 ⟨by show cells ≤ kc; omega, by show slots ≤ ks; omega⟩ (fun H locs V => W.eq (g2 := F0 m 477 ls [.int r107]) rfl ?_)
        refine lv_aload_n (pc := 477) hx hb dL_law_477 rfl (lv_at hl 2 rfl) ?_
        refine lv_aload_n (pc := 478) hx hb dL_law_478 rfl (lv_at hl 0 rfl) ?_
        refine lv_iload_n (pc := 479) hx hb dL_law_479 rfl (lv_at hl 3 rfl) ?_
        refine lv_iconst (pc := 480) (v := (ii 1)) hx hb dL_law_480 (by decide) ?_
        refine lv_iadd (pc := 481) hx hb dL_law_481 ?_
        replace hf := chk_s hf; obtain ⟨hq111, hf⟩ := hf
        refine x_sld (pc := 482) X V hXs hq111 dL_law_482 ?_
        refine lv_aload_n (pc := 483) hx hb dL_law_483 rfl (lv_at hl 0 rfl) ?_
        refine lv_iload_n (pc := 484) hx hb dL_law_484 rfl (lv_at hl 3 rfl) ?_
        refine lv_iconst (pc := 485) (v := (ii 2)) hx hb dL_law_485 (by decide) ?_
        refine lv_iadd (pc := 486) hx hb dL_law_486 ?_
        replace hf := chk_s hf; obtain ⟨hq112, hf⟩ := hf
        refine x_sld (pc := 487) X V hXs hq112 dL_law_487 ?_
        refine lv_aload_n (pc := 488) hx hb dL_law_488 rfl (lv_at hl 0 rfl) ?_
        refine lv_iload_n (pc := 489) hx hb dL_law_489 rfl (lv_at hl 3 rfl) ?_
        refine lv_iconst (pc := 490) (v := (ii 3)) hx hb dL_law_490 (by decide) ?_
        refine lv_iadd (pc := 491) hx hb dL_law_491 ?_
        replace hf := chk_s hf; obtain ⟨hq113, hf⟩ := hf
        refine x_sld (pc := 492) X V hXs hq113 dL_law_492 ?_
        refine lv_aload_n (pc := 493) hx hb dL_law_493 rfl (lv_at hl 0 rfl) ?_
        refine lv_iload_n (pc := 494) hx hb dL_law_494 rfl (lv_at hl 3 rfl) ?_
        refine lv_iconst (pc := 495) (v := (ii 4)) hx hb dL_law_495 (by decide) ?_
        refine lv_iadd (pc := 496) hx hb dL_law_496 ?_
        replace hf := chk_s hf; obtain ⟨hq114, hf⟩ := hf
        refine x_sld (pc := 497) X V hXs hq114 dL_law_497 ?_
        refine lv_aload_n (pc := 498) hx hb dL_law_498 rfl (lv_at hl 0 rfl) ?_
        refine lv_iload_n (pc := 499) hx hb dL_law_499 rfl (lv_at hl 3 rfl) ?_
        refine lv_iconst (pc := 500) (v := (ii 5)) hx hb dL_law_500 (by decide) ?_
        refine lv_iadd (pc := 501) hx hb dL_law_501 ?_
        replace hf := chk_s hf; obtain ⟨hq115, hf⟩ := hf
        refine x_sld (pc := 502) X V hXs hq115 dL_law_502 ?_
        replace hf := tg_s hf; obtain ⟨ht119, hf⟩ := hf
        replace hf := b2s hf; obtain ⟨r116, I117, hk_118, hf⟩ := hf
        refine x_callV0 (pc := 503) (As := [.int (xs ((x3 + (ii 1))).toNatClampNeg), .int (xs ((x3 + (ii 2))).toNatClampNeg), .int (xs ((x3 + (ii 3))).toNatClampNeg), .int (xs ((x3 + (ii 4))).toNatClampNeg), .int (xs ((x3 + (ii 5))).toNatClampNeg)]) (rest := [.int r107]) X V (mX5_feed l D dA s0 hk_118) okX5 ht119 q1826 q1827 q1828 q129 q1829 ⟨rfl, hsX5_feed⟩ ⟨Nat.le_of_ble_eq_true rfl, Nat.le_of_ble_eq_true rfl⟩ rfl hl.1 rfl (Nat.le_of_ble_eq_true rfl) dL_law_503 ⟨by show cells ≤ kc; omega, by show slots ≤ ks; omega⟩ (fun H locs V => W.eq (g2 := F0 m 506 ls [.int r116, .int r107]) rfl ?_)
        refine lv_icmp_eq (pc := 506) (tgt := 1320) hx hb dL_law_506 (by decide) (fun c120 => ?_) (fun c120 => ?_)
        · replace hf := if_t hf c120
          replace hf := nm_s hf; obtain ⟨u121, hu121, hf⟩ := hf
          refine lv_iinc (pc := 1320) (v := u121) (lv' := [(3, .int u121), (0, .ref sb), (1, .ref x1), (2, .ref x2)]) hx hb dL_law_1320 hl (k := 3) rfl (by rw [hu121]; rfl) (by decide) rfl (fun ls hl => ?_)
          refine lv_goto (pc := 1323) (tgt := 18) hx hb dL_law_1323 (by decide) ?_
          exact ih hf V (lv_sub hl [1, 2, 3, 0] rfl) ⟨by omega, by omega⟩
        · replace hf := if_f hf c120
          refine lv_iconst (pc := 509) (v := (ii 0)) hx hb dL_law_509 (by decide) ?_
          cases hf
          exact x_zretW (pc := 510) X V hr (by omega) (by omega) (by decide) dL_law_510
      replace hf := if_f hf c101
      by_cases c122 : ((xs (x3).toNatClampNeg) &&& (ii 63)) = (ii 7)
      · replace hf := if_t hf c122
        refine x_tswIn (pc := 33) (tgt := 511) (off := 478) hx hb c122 dL_law_33 (by decide) (by decide) (by decide) (by decide) ?_
        refine lv_aload_n (pc := 511) hx hb dL_law_511 rfl (lv_at hl 1 rfl) ?_
        refine lv_aload_n (pc := 512) hx hb dL_law_512 rfl (lv_at hl 0 rfl) ?_
        refine lv_iload_n (pc := 513) hx hb dL_law_513 rfl (lv_at hl 3 rfl) ?_
        refine lv_iconst (pc := 514) (v := (ii 1)) hx hb dL_law_514 (by decide) ?_
        refine lv_iadd (pc := 515) hx hb dL_law_515 ?_
        replace hf := chk_s hf; obtain ⟨hq123, hf⟩ := hf
        refine x_sld (pc := 516) X V hXs hq123 dL_law_516 ?_
        replace hf := tg_s hf; obtain ⟨ht127, hf⟩ := hf
        replace hf := b2s hf; obtain ⟨r124, I125, hk_126, hf⟩ := hf
        refine x_callV0 (pc := 517) (As := [.int (xs ((x3 + (ii 1))).toNatClampNeg)]) (rest := []) X V (mX0_end l D dA s0 hk_126) okX0 ht127 q711 q712 q713 q119 q714 ⟨rfl, hsX0_end⟩ ⟨Nat.le_of_ble_eq_true rfl, Nat.le_of_ble_eq_true rfl⟩ rfl hl.1 rfl (Nat.le_of_ble_eq_true rfl) dL_law_517 ⟨by show cells ≤ kc; omega, by show slots ≤ ks; omega⟩ (fun H locs V => W.eq (g2 := F0 m 520 ls [.int r124]) rfl ?_)
        refine lv_aload_n (pc := 520) hx hb dL_law_520 rfl (lv_at hl 2 rfl) ?_
        refine lv_aload_n (pc := 521) hx hb dL_law_521 rfl (lv_at hl 0 rfl) ?_
        refine lv_iload_n (pc := 522) hx hb dL_law_522 rfl (lv_at hl 3 rfl) ?_
        refine lv_iconst (pc := 523) (v := (ii 1)) hx hb dL_law_523 (by decide) ?_
        refine lv_iadd (pc := 524) hx hb dL_law_524 ?_
        replace hf := chk_s hf; obtain ⟨hq128, hf⟩ := hf
        refine x_sld (pc := 525) X V hXs hq128 dL_law_525 ?_
        replace hf := tg_s hf; obtain ⟨ht132, hf⟩ := hf
        replace hf := b2s hf; obtain ⟨r129, I130, hk_131, hf⟩ := hf
        refine x_callV0 (pc := 526) (As := [.int (xs ((x3 + (ii 1))).toNatClampNeg)]) (rest := [.int r124]) X V (mX5_end l D dA s0 hk_131) okX5 ht132 q1834 q1835 q1836 q129 q1837 ⟨rfl, hsX5_end⟩ ⟨Nat.le_of_ble_eq_true rfl, Nat.le_of_ble_eq_true rfl⟩ rfl hl.1 rfl (Nat.le_of_ble_eq_true rfl) dL_law_526 ⟨by show cells ≤ kc; omega, by show slots ≤ ks; omega⟩ (fun H locs V => W.eq (g2 := F0 m 529 ls [.int r129, .int r124]) rfl ?_)
        refine lv_icmp_eq (pc := 529) (tgt := 1320) hx hb dL_law_529 (by decide) (fun c133 => ?_) (fun c133 => ?_)
        · replace hf := if_t hf c133
          replace hf := nm_s hf; obtain ⟨u134, hu134, hf⟩ := hf
          refine lv_iinc (pc := 1320) (v := u134) (lv' := [(3, .int u134), (0, .ref sb), (1, .ref x1), (2, .ref x2)]) hx hb dL_law_1320 hl (k := 3) rfl (by rw [hu134]; rfl) (by decide) rfl (fun ls hl => ?_)
          refine lv_goto (pc := 1323) (tgt := 18) hx hb dL_law_1323 (by decide) ?_
          exact ih hf V (lv_sub hl [1, 2, 3, 0] rfl) ⟨by omega, by omega⟩
        · replace hf := if_f hf c133
          refine lv_iconst (pc := 532) (v := (ii 0)) hx hb dL_law_532 (by decide) ?_
          cases hf
          exact x_zretW (pc := 533) X V hr (by omega) (by omega) (by decide) dL_law_533
      replace hf := if_f hf c122
      by_cases c135 : ((xs (x3).toNatClampNeg) &&& (ii 63)) = (ii 8)
      · replace hf := if_t hf c135
        refine x_tswIn (pc := 33) (tgt := 534) (off := 501) hx hb c135 dL_law_33 (by decide) (by decide) (by decide) (by decide) ?_
        refine lv_aload_n (pc := 534) hx hb dL_law_534 rfl (lv_at hl 1 rfl) ?_
        replace hf := tg_s hf; obtain ⟨ht139, hf⟩ := hf
        replace hf := b2s hf; obtain ⟨r136, I137, hk_138, hf⟩ := hf
        refine x_callV0 (pc := 535) (As := []) (rest := []) X V (mX0_row l D dA s0 hk_138) okX0 ht139 q715 q716 q717 q119 q718 ⟨rfl, hsX0_row⟩ ⟨Nat.le_of_ble_eq_true rfl, Nat.le_of_ble_eq_true rfl⟩ rfl hl.1 rfl (Nat.le_of_ble_eq_true rfl) dL_law_535 ⟨by show cells ≤ kc; omega, by show slots ≤ ks; omega⟩ (fun H locs V => W.eq (g2 := F0 m 538 ls [.int r136]) rfl ?_)
        refine lv_aload_n (pc := 538) hx hb dL_law_538 rfl (lv_at hl 2 rfl) ?_
        replace hf := tg_s hf; obtain ⟨ht143, hf⟩ := hf
        replace hf := b2s hf; obtain ⟨r140, I141, hk_142, hf⟩ := hf
        refine x_callV0 (pc := 539) (As := []) (rest := [.int r136]) X V (mX5_row l D dA s0 hk_142) okX5 ht143 q1818 q1819 q1820 q129 q1821 ⟨rfl, hsX5_row⟩ ⟨Nat.le_of_ble_eq_true rfl, Nat.le_of_ble_eq_true rfl⟩ rfl hl.1 rfl (Nat.le_of_ble_eq_true rfl) dL_law_539 ⟨by show cells ≤ kc; omega, by show slots ≤ ks; omega⟩ (fun H locs V => W.eq (g2 := F0 m 542 ls [.int r140, .int r136]) rfl ?_)
        refine lv_icmp_eq (pc := 542) (tgt := 1320) hx hb dL_law_542 (by decide) (fun c144 => ?_) (fun c144 => ?_)
        · replace hf := if_t hf c144
          replace hf := nm_s hf; obtain ⟨u145, hu145, hf⟩ := hf
          refine lv_iinc (pc := 1320) (v := u145) (lv' := [(3, .int u145), (0, .ref sb), (1, .ref x1), (2, .ref x2)]) hx hb dL_law_1320 hl (k := 3) rfl (by rw [hu145]; rfl) (by decide) rfl (fun ls hl => ?_)
          refine lv_goto (pc := 1323) (tgt := 18) hx hb dL_law_1323 (by decide) ?_
          exact ih hf V (lv_sub hl [1, 2, 3, 0] rfl) ⟨by omega, by omega⟩
        · replace hf := if_f hf c144
          refine lv_iconst (pc := 545) (v := (ii 0)) hx hb dL_law_545 (by decide) ?_
          cases hf
          exact x_zretW (pc := 546) X V hr (by omega) (by omega) (by decide) dL_law_546
      replace hf := if_f hf c135
      by_cases c146 : ((xs (x3).toNatClampNeg) &&& (ii 63)) = (ii 9)
      · replace hf := if_t hf c146
        refine x_tswIn (pc := 33) (tgt := 547) (off := 514) hx hb c146 dL_law_33 (by decide) (by decide) (by decide) (by decide) ?_
        refine lv_aload_n (pc := 547) hx hb dL_law_547 rfl (lv_at hl 1 rfl) ?_
        replace hf := tg_s hf; obtain ⟨ht149, hf⟩ := hf
        replace hf := bs hf; obtain ⟨r147, hk_148, hf⟩ := hf
        refine x_callV0 (pc := 548) (As := []) (rest := []) X V (mX0_gravel l D dA s0 hk_148) okX0 ht149 q719 q720 q721 q119 q722 ⟨rfl, hsX0_gravel⟩ ⟨Nat.le_of_ble_eq_true rfl, Nat.le_of_ble_eq_true rfl⟩ rfl hl.1 rfl (Nat.le_of_ble_eq_true rfl) dL_law_548 ⟨by show cells ≤ kc; omega, by show slots ≤ ks; omega⟩ (fun H locs V => W.eq (g2 := F0 m 551 ls [.int r147]) rfl ?_)
        refine lv_aload_n (pc := 551) hx hb dL_law_551 rfl (lv_at hl 2 rfl) ?_
        replace hf := tg_s hf; obtain ⟨ht153, hf⟩ := hf
        replace hf := b2s hf; obtain ⟨r150, I151, hk_152, hf⟩ := hf
        refine x_callV0 (pc := 552) (As := []) (rest := [.int r147]) X V (mX5_gravel l D dA s0 hk_152) okX5 ht153 q1822 q1823 q1824 q129 q1825 ⟨rfl, hsX5_gravel⟩ ⟨Nat.le_of_ble_eq_true rfl, Nat.le_of_ble_eq_true rfl⟩ rfl hl.1 rfl (Nat.le_of_ble_eq_true rfl) dL_law_552 ⟨by show cells ≤ kc; omega, by show slots ≤ ks; omega⟩ (fun H locs V => W.eq (g2 := F0 m 555 ls [.int r150, .int r147]) rfl ?_)
        refine lv_icmp_eq (pc := 555) (tgt := 1320) hx hb dL_law_555 (by decide) (fun c154 => ?_) (fun c154 => ?_)
        · replace hf := if_t hf c154
          replace hf := nm_s hf; obtain ⟨u155, hu155, hf⟩ := hf
          refine lv_iinc (pc := 1320) (v := u155) (lv' := [(3, .int u155), (0, .ref sb), (1, .ref x1), (2, .ref x2)]) hx hb dL_law_1320 hl (k := 3) rfl (by rw [hu155]; rfl) (by decide) rfl (fun ls hl => ?_)
          refine lv_goto (pc := 1323) (tgt := 18) hx hb dL_law_1323 (by decide) ?_
          exact ih hf V (lv_sub hl [1, 2, 3, 0] rfl) ⟨by omega, by omega⟩
        · replace hf := if_f hf c154
          refine lv_iconst (pc := 558) (v := (ii 0)) hx hb dL_law_558 (by decide) ?_
          cases hf
          exact x_zretW (pc := 559) X V hr (by omega) (by omega) (by decide) dL_law_559
      replace hf := if_f hf c146
      by_cases c156 : ((xs (x3).toNatClampNeg) &&& (ii 63)) = (ii 10)
      · replace hf := if_t hf c156
        refine x_tswIn (pc := 33) (tgt := 560) (off := 527) hx hb c156 dL_law_33 (by decide) (by decide) (by decide) (by decide) ?_
        refine lv_aload_n (pc := 560) hx hb dL_law_560 rfl (lv_at hl 1 rfl) ?_
        replace hf := tg_s hf; obtain ⟨ht165, hf⟩ := hf
        replace hf := b7s hf; obtain ⟨r157, T158, N159, Z160, S161, I162, R163, hk_164, hf⟩ := hf
        have hm_hk_164 := zX0_law hk_164
        have hm := zL_law_b564 ihm hf
        refine x_callV (pc := 561) (As := []) (rest := []) X V (mX0_law l D dA s0 (kc := Z160 - Z) (ks := S161 - S) (Nat.le_refl _) (Nat.le_refl _) hk_164) okX0 ht165 q723 q724 q725 q119 q726 ⟨rfl, hsX0_law⟩ ⟨Nat.le_of_ble_eq_true rfl, Nat.le_of_ble_eq_true rfl⟩ rfl hl.1 rfl (Nat.le_of_ble_eq_true rfl) dL_law_561 ⟨by show _ ≤ kc; omega, by show _ ≤ ks; omega⟩ (fun H locs V => W.eq (g2 := F0 m 564 ls [.int r157]) rfl ?_)
        exact wL_law_b564 X hr hXs ih ihm hf V (lv_sub hl [0, 1, 2, 3] rfl) ⟨by omega, by omega⟩
      replace hf := if_f hf c156
      by_cases c166 : ((xs (x3).toNatClampNeg) &&& (ii 63)) = (ii 11)
      · replace hf := if_t hf c166
        refine x_tswIn (pc := 33) (tgt := 573) (off := 540) hx hb c166 dL_law_33 (by decide) (by decide) (by decide) (by decide) ?_
        refine lv_aload_n (pc := 573) hx hb dL_law_573 rfl (lv_at hl 1 rfl) ?_
        replace hf := tg_s hf; obtain ⟨ht176, hf⟩ := hf
        replace hf := b8s hf; obtain ⟨r167, T168, N169, Z170, S171, I172, L173, R174, hk_175, hf⟩ := hf
        have hm_hk_175 := zX0_orders hk_175
        have hm := zL_law_b577 ihm hf
        refine x_callV (pc := 574) (As := []) (rest := []) X V (mX0_orders l D dA s0 (kc := Z170 - Z) (ks := S171 - S) (Nat.le_refl _) (Nat.le_refl _) hk_175) okX0 ht176 q1418 q1419 q1420 q119 q1421 ⟨rfl, hsX0_orders⟩ ⟨Nat.le_of_ble_eq_true rfl, Nat.le_of_ble_eq_true rfl⟩ rfl hl.1 rfl (Nat.le_of_ble_eq_true rfl) dL_law_574 ⟨by show _ ≤ kc; omega, by show _ ≤ ks; omega⟩ (fun H locs V => W.eq (g2 := F0 m 577 ls [.int r167]) rfl ?_)
        exact wL_law_b577 X hr hXs ih ihm hf V (lv_sub hl [0, 1, 2, 3] rfl) ⟨by omega, by omega⟩
      replace hf := if_f hf c166
      by_cases c177 : ((xs (x3).toNatClampNeg) &&& (ii 63)) = (ii 12)
      · replace hf := if_t hf c177
        refine x_tswIn (pc := 33) (tgt := 586) (off := 553) hx hb c177 dL_law_33 (by decide) (by decide) (by decide) (by decide) ?_
        refine lv_aload_n (pc := 586) hx hb dL_law_586 rfl (lv_at hl 1 rfl) ?_
        replace hf := tg_s hf; obtain ⟨ht180, hf⟩ := hf
        replace hf := bs hf; obtain ⟨r178, hk_179, hf⟩ := hf
        refine x_callV0 (pc := 587) (As := []) (rest := []) X V (mX0_fault l D dA s0 hk_179) okX0 ht180 q1199 q1200 q1201 q119 q1202 ⟨rfl, hsX0_fault⟩ ⟨Nat.le_of_ble_eq_true rfl, Nat.le_of_ble_eq_true rfl⟩ rfl hl.1 rfl (Nat.le_of_ble_eq_true rfl) dL_law_587 ⟨by show cells ≤ kc; omega, by show slots ≤ ks; omega⟩ (fun H locs V => W.eq (g2 := F0 m 590 ls [.int r178]) rfl ?_)
        refine lv_aload_n (pc := 590) hx hb dL_law_590 rfl (lv_at hl 2 rfl) ?_
        replace hf := tg_s hf; obtain ⟨ht184, hf⟩ := hf
        replace hf := b2s hf; obtain ⟨r181, I182, hk_183, hf⟩ := hf
        refine x_callV0 (pc := 591) (As := []) (rest := [.int r178]) X V (mX5_fault l D dA s0 hk_183) okX5 ht184 q1838 q1839 q1840 q129 q1841 ⟨rfl, hsX5_fault⟩ ⟨Nat.le_of_ble_eq_true rfl, Nat.le_of_ble_eq_true rfl⟩ rfl hl.1 rfl (Nat.le_of_ble_eq_true rfl) dL_law_591 ⟨by show cells ≤ kc; omega, by show slots ≤ ks; omega⟩ (fun H locs V => W.eq (g2 := F0 m 594 ls [.int r181, .int r178]) rfl ?_)
        refine lv_icmp_eq (pc := 594) (tgt := 1320) hx hb dL_law_594 (by decide) (fun c185 => ?_) (fun c185 => ?_)
        · replace hf := if_t hf c185
          replace hf := nm_s hf; obtain ⟨u186, hu186, hf⟩ := hf
          refine lv_iinc (pc := 1320) (v := u186) (lv' := [(3, .int u186), (0, .ref sb), (1, .ref x1), (2, .ref x2)]) hx hb dL_law_1320 hl (k := 3) rfl (by rw [hu186]; rfl) (by decide) rfl (fun ls hl => ?_)
          refine lv_goto (pc := 1323) (tgt := 18) hx hb dL_law_1323 (by decide) ?_
          exact ih hf V (lv_sub hl [1, 2, 3, 0] rfl) ⟨by omega, by omega⟩
        · replace hf := if_f hf c185
          refine lv_iconst (pc := 597) (v := (ii 0)) hx hb dL_law_597 (by decide) ?_
          cases hf
          exact x_zretW (pc := 598) X V hr (by omega) (by omega) (by decide) dL_law_598
      replace hf := if_f hf c177
      by_cases c187 : ((xs (x3).toNatClampNeg) &&& (ii 63)) = (ii 13)
      · replace hf := if_t hf c187
        refine x_tswIn (pc := 33) (tgt := 599) (off := 566) hx hb c187 dL_law_33 (by decide) (by decide) (by decide) (by decide) ?_
        refine lv_aload_n (pc := 599) hx hb dL_law_599 rfl (lv_at hl 1 rfl) ?_
        replace hf := tg_s hf; obtain ⟨ht190, hf⟩ := hf
        replace hf := bs hf; obtain ⟨r188, hk_189, hf⟩ := hf
        refine x_callV0 (pc := 600) (As := []) (rest := []) X V (mX0_stopped l D dA s0 hk_189) okX0 ht190 q1203 q1204 q1205 q119 q1206 ⟨rfl, hsX0_stopped⟩ ⟨Nat.le_of_ble_eq_true rfl, Nat.le_of_ble_eq_true rfl⟩ rfl hl.1 rfl (Nat.le_of_ble_eq_true rfl) dL_law_600 ⟨by show cells ≤ kc; omega, by show slots ≤ ks; omega⟩ (fun H locs V => W.eq (g2 := F0 m 603 ls [.int r188]) rfl ?_)
        refine lv_aload_n (pc := 603) hx hb dL_law_603 rfl (lv_at hl 2 rfl) ?_
        replace hf := tg_s hf; obtain ⟨ht194, hf⟩ := hf
        replace hf := b2s hf; obtain ⟨r191, I192, hk_193, hf⟩ := hf
        refine x_callV0 (pc := 604) (As := []) (rest := [.int r188]) X V (mX5_stopped l D dA s0 hk_193) okX5 ht194 q2192 q2193 q2194 q129 q2195 ⟨rfl, hsX5_stopped⟩ ⟨Nat.le_of_ble_eq_true rfl, Nat.le_of_ble_eq_true rfl⟩ rfl hl.1 rfl (Nat.le_of_ble_eq_true rfl) dL_law_604 ⟨by show cells ≤ kc; omega, by show slots ≤ ks; omega⟩ (fun H locs V => W.eq (g2 := F0 m 607 ls [.int r191, .int r188]) rfl ?_)
        refine lv_icmp_eq (pc := 607) (tgt := 1320) hx hb dL_law_607 (by decide) (fun c195 => ?_) (fun c195 => ?_)
        · replace hf := if_t hf c195
          replace hf := nm_s hf; obtain ⟨u196, hu196, hf⟩ := hf
          refine lv_iinc (pc := 1320) (v := u196) (lv' := [(3, .int u196), (0, .ref sb), (1, .ref x1), (2, .ref x2)]) hx hb dL_law_1320 hl (k := 3) rfl (by rw [hu196]; rfl) (by decide) rfl (fun ls hl => ?_)
          refine lv_goto (pc := 1323) (tgt := 18) hx hb dL_law_1323 (by decide) ?_
          exact ih hf V (lv_sub hl [1, 2, 3, 0] rfl) ⟨by omega, by omega⟩
        · replace hf := if_f hf c195
          refine lv_iconst (pc := 610) (v := (ii 0)) hx hb dL_law_610 (by decide) ?_
          cases hf
          exact x_zretW (pc := 611) X V hr (by omega) (by omega) (by decide) dL_law_611
      replace hf := if_f hf c187
      by_cases c197 : ((xs (x3).toNatClampNeg) &&& (ii 63)) = (ii 14)
      · replace hf := if_t hf c197
        refine x_tswIn (pc := 33) (tgt := 612) (off := 579) hx hb c197 dL_law_33 (by decide) (by decide) (by decide) (by decide) ?_
        refine lv_aload_n (pc := 612) hx hb dL_law_612 rfl (lv_at hl 1 rfl) ?_
        refine lv_aload_n (pc := 613) hx hb dL_law_613 rfl (lv_at hl 0 rfl) ?_
        refine lv_iload_n (pc := 614) hx hb dL_law_614 rfl (lv_at hl 3 rfl) ?_
        refine lv_iconst (pc := 615) (v := (ii 1)) hx hb dL_law_615 (by decide) ?_
        refine lv_iadd (pc := 616) hx hb dL_law_616 ?_
        replace hf := chk_s hf; obtain ⟨hq198, hf⟩ := hf
        refine x_sld (pc := 617) X V hXs hq198 dL_law_617 ?_
        replace hf := tg_s hf; obtain ⟨ht202, hf⟩ := hf
        replace hf := b2s hf; obtain ⟨r199, I200, hk_201, hf⟩ := hf
        refine x_callV0 (pc := 618) (As := [.int (xs ((x3 + (ii 1))).toNatClampNeg)]) (rest := []) X V (mX0_force l D dA s0 hk_201) okX0 ht202 q1207 q1208 q1209 q119 q1210 ⟨rfl, hsX0_force⟩ ⟨Nat.le_of_ble_eq_true rfl, Nat.le_of_ble_eq_true rfl⟩ rfl hl.1 rfl (Nat.le_of_ble_eq_true rfl) dL_law_618 ⟨by show cells ≤ kc; omega, by show slots ≤ ks; omega⟩ (fun H locs V => W.eq (g2 := F0 m 621 ls [.int r199]) rfl ?_)
        refine lv_aload_n (pc := 621) hx hb dL_law_621 rfl (lv_at hl 2 rfl) ?_
        refine lv_aload_n (pc := 622) hx hb dL_law_622 rfl (lv_at hl 0 rfl) ?_
        refine lv_iload_n (pc := 623) hx hb dL_law_623 rfl (lv_at hl 3 rfl) ?_
        refine lv_iconst (pc := 624) (v := (ii 1)) hx hb dL_law_624 (by decide) ?_
        refine lv_iadd (pc := 625) hx hb dL_law_625 ?_
        replace hf := chk_s hf; obtain ⟨hq203, hf⟩ := hf
        refine x_sld (pc := 626) X V hXs hq203 dL_law_626 ?_
        replace hf := tg_s hf; obtain ⟨ht207, hf⟩ := hf
        replace hf := b2s hf; obtain ⟨r204, I205, hk_206, hf⟩ := hf
        refine x_callV0 (pc := 627) (As := [.int (xs ((x3 + (ii 1))).toNatClampNeg)]) (rest := [.int r199]) X V (mX5_force l D dA s0 hk_206) okX5 ht207 q1961 q1962 q1963 q129 q1964 ⟨rfl, hsX5_force⟩ ⟨Nat.le_of_ble_eq_true rfl, Nat.le_of_ble_eq_true rfl⟩ rfl hl.1 rfl (Nat.le_of_ble_eq_true rfl) dL_law_627 ⟨by show cells ≤ kc; omega, by show slots ≤ ks; omega⟩ (fun H locs V => W.eq (g2 := F0 m 630 ls [.int r204, .int r199]) rfl ?_)
        refine lv_icmp_eq (pc := 630) (tgt := 1320) hx hb dL_law_630 (by decide) (fun c208 => ?_) (fun c208 => ?_)
        · replace hf := if_t hf c208
          replace hf := nm_s hf; obtain ⟨u209, hu209, hf⟩ := hf
          refine lv_iinc (pc := 1320) (v := u209) (lv' := [(3, .int u209), (0, .ref sb), (1, .ref x1), (2, .ref x2)]) hx hb dL_law_1320 hl (k := 3) rfl (by rw [hu209]; rfl) (by decide) rfl (fun ls hl => ?_)
          refine lv_goto (pc := 1323) (tgt := 18) hx hb dL_law_1323 (by decide) ?_
          exact ih hf V (lv_sub hl [1, 2, 3, 0] rfl) ⟨by omega, by omega⟩
        · replace hf := if_f hf c208
          refine lv_iconst (pc := 633) (v := (ii 0)) hx hb dL_law_633 (by decide) ?_
          cases hf
          exact x_zretW (pc := 634) X V hr (by omega) (by omega) (by decide) dL_law_634
      replace hf := if_f hf c197
      by_cases c210 : ((xs (x3).toNatClampNeg) &&& (ii 63)) = (ii 15)
      · replace hf := if_t hf c210
        refine x_tswIn (pc := 33) (tgt := 635) (off := 602) hx hb c210 dL_law_33 (by decide) (by decide) (by decide) (by decide) ?_
        refine lv_aload_n (pc := 635) hx hb dL_law_635 rfl (lv_at hl 1 rfl) ?_
        refine lv_aload_n (pc := 636) hx hb dL_law_636 rfl (lv_at hl 0 rfl) ?_
        refine lv_iload_n (pc := 637) hx hb dL_law_637 rfl (lv_at hl 3 rfl) ?_
        refine lv_iconst (pc := 638) (v := (ii 1)) hx hb dL_law_638 (by decide) ?_
        refine lv_iadd (pc := 639) hx hb dL_law_639 ?_
        replace hf := chk_s hf; obtain ⟨hq211, hf⟩ := hf
        refine x_sld (pc := 640) X V hXs hq211 dL_law_640 ?_
        replace hf := tg_s hf; obtain ⟨ht217, hf⟩ := hf
        replace hf := b4s hf; obtain ⟨r212, I213, L214, R215, hk_216, hf⟩ := hf
        refine x_callV0 (pc := 641) (As := [.int (xs ((x3 + (ii 1))).toNatClampNeg)]) (rest := []) X V (mX0_wander l D dA s0 hk_216) okX0 ht217 q1215 q1216 q1217 q119 q1218 ⟨rfl, hsX0_wander⟩ ⟨Nat.le_of_ble_eq_true rfl, Nat.le_of_ble_eq_true rfl⟩ rfl hl.1 rfl (Nat.le_of_ble_eq_true rfl) dL_law_641 ⟨by show cells ≤ kc; omega, by show slots ≤ ks; omega⟩ (fun H locs V => W.eq (g2 := F0 m 644 ls [.int r212]) rfl ?_)
        refine lv_aload_n (pc := 644) hx hb dL_law_644 rfl (lv_at hl 2 rfl) ?_
        refine lv_aload_n (pc := 645) hx hb dL_law_645 rfl (lv_at hl 0 rfl) ?_
        refine lv_iload_n (pc := 646) hx hb dL_law_646 rfl (lv_at hl 3 rfl) ?_
        refine lv_iconst (pc := 647) (v := (ii 1)) hx hb dL_law_647 (by decide) ?_
        refine lv_iadd (pc := 648) hx hb dL_law_648 ?_
        replace hf := chk_s hf; obtain ⟨hq218, hf⟩ := hf
        refine x_sld (pc := 649) X V hXs hq218 dL_law_649 ?_
        replace hf := tg_s hf; obtain ⟨ht223, hf⟩ := hf
        replace hf := b3s hf; obtain ⟨r219, I220, L221, hk_222, hf⟩ := hf
        refine x_callV0 (pc := 650) (As := [.int (xs ((x3 + (ii 1))).toNatClampNeg)]) (rest := [.int r212]) X V (mX5_wander l D dA s0 hk_222) okX5 ht223 q1969 q1970 q1971 q129 q1972 ⟨rfl, hsX5_wander⟩ ⟨Nat.le_of_ble_eq_true rfl, Nat.le_of_ble_eq_true rfl⟩ rfl hl.1 rfl (Nat.le_of_ble_eq_true rfl) dL_law_650 ⟨by show cells ≤ kc; omega, by show slots ≤ ks; omega⟩ (fun H locs V => W.eq (g2 := F0 m 653 ls [.int r219, .int r212]) rfl ?_)
        refine lv_icmp_eq (pc := 653) (tgt := 1320) hx hb dL_law_653 (by decide) (fun c224 => ?_) (fun c224 => ?_)
        · replace hf := if_t hf c224
          replace hf := nm_s hf; obtain ⟨u225, hu225, hf⟩ := hf
          refine lv_iinc (pc := 1320) (v := u225) (lv' := [(3, .int u225), (0, .ref sb), (1, .ref x1), (2, .ref x2)]) hx hb dL_law_1320 hl (k := 3) rfl (by rw [hu225]; rfl) (by decide) rfl (fun ls hl => ?_)
          refine lv_goto (pc := 1323) (tgt := 18) hx hb dL_law_1323 (by decide) ?_
          exact ih hf V (lv_sub hl [1, 2, 3, 0] rfl) ⟨by omega, by omega⟩
        · replace hf := if_f hf c224
          refine lv_iconst (pc := 656) (v := (ii 0)) hx hb dL_law_656 (by decide) ?_
          cases hf
          exact x_zretW (pc := 657) X V hr (by omega) (by omega) (by decide) dL_law_657
      replace hf := if_f hf c210
      by_cases c226 : ((xs (x3).toNatClampNeg) &&& (ii 63)) = (ii 16)
      · replace hf := if_t hf c226
        refine x_tswIn (pc := 33) (tgt := 658) (off := 625) hx hb c226 dL_law_33 (by decide) (by decide) (by decide) (by decide) ?_
        refine lv_aload_n (pc := 658) hx hb dL_law_658 rfl (lv_at hl 1 rfl) ?_
        refine lv_aload_n (pc := 659) hx hb dL_law_659 rfl (lv_at hl 0 rfl) ?_
        refine lv_iload_n (pc := 660) hx hb dL_law_660 rfl (lv_at hl 3 rfl) ?_
        refine lv_iconst (pc := 661) (v := (ii 1)) hx hb dL_law_661 (by decide) ?_
        refine lv_iadd (pc := 662) hx hb dL_law_662 ?_
        replace hf := chk_s hf; obtain ⟨hq227, hf⟩ := hf
        refine x_sld (pc := 663) X V hXs hq227 dL_law_663 ?_
        replace hf := tg_s hf; obtain ⟨ht233, hf⟩ := hf
        replace hf := b4s hf; obtain ⟨r228, I229, L230, R231, hk_232, hf⟩ := hf
        refine x_callV0 (pc := 664) (As := [.int (xs ((x3 + (ii 1))).toNatClampNeg)]) (rest := []) X V (mX0_cry l D dA s0 hk_232) okX0 ht233 q1240 q1241 q1242 q119 q1243 ⟨rfl, hsX0_cry⟩ ⟨Nat.le_of_ble_eq_true rfl, Nat.le_of_ble_eq_true rfl⟩ rfl hl.1 rfl (Nat.le_of_ble_eq_true rfl) dL_law_664 ⟨by show cells ≤ kc; omega, by show slots ≤ ks; omega⟩ (fun H locs V => W.eq (g2 := F0 m 667 ls [.int r228]) rfl ?_)
        refine lv_aload_n (pc := 667) hx hb dL_law_667 rfl (lv_at hl 2 rfl) ?_
        refine lv_aload_n (pc := 668) hx hb dL_law_668 rfl (lv_at hl 0 rfl) ?_
        refine lv_iload_n (pc := 669) hx hb dL_law_669 rfl (lv_at hl 3 rfl) ?_
        refine lv_iconst (pc := 670) (v := (ii 1)) hx hb dL_law_670 (by decide) ?_
        refine lv_iadd (pc := 671) hx hb dL_law_671 ?_
        replace hf := chk_s hf; obtain ⟨hq234, hf⟩ := hf
        refine x_sld (pc := 672) X V hXs hq234 dL_law_672 ?_
        replace hf := tg_s hf; obtain ⟨ht239, hf⟩ := hf
        replace hf := b3s hf; obtain ⟨r235, I236, L237, hk_238, hf⟩ := hf
        refine x_callV0 (pc := 673) (As := [.int (xs ((x3 + (ii 1))).toNatClampNeg)]) (rest := [.int r228]) X V (mX5_cry l D dA s0 hk_238) okX5 ht239 q1993 q1994 q1995 q129 q1996 ⟨rfl, hsX5_cry⟩ ⟨Nat.le_of_ble_eq_true rfl, Nat.le_of_ble_eq_true rfl⟩ rfl hl.1 rfl (Nat.le_of_ble_eq_true rfl) dL_law_673 ⟨by show cells ≤ kc; omega, by show slots ≤ ks; omega⟩ (fun H locs V => W.eq (g2 := F0 m 676 ls [.int r235, .int r228]) rfl ?_)
        refine lv_icmp_eq (pc := 676) (tgt := 1320) hx hb dL_law_676 (by decide) (fun c240 => ?_) (fun c240 => ?_)
        · replace hf := if_t hf c240
          replace hf := nm_s hf; obtain ⟨u241, hu241, hf⟩ := hf
          refine lv_iinc (pc := 1320) (v := u241) (lv' := [(3, .int u241), (0, .ref sb), (1, .ref x1), (2, .ref x2)]) hx hb dL_law_1320 hl (k := 3) rfl (by rw [hu241]; rfl) (by decide) rfl (fun ls hl => ?_)
          refine lv_goto (pc := 1323) (tgt := 18) hx hb dL_law_1323 (by decide) ?_
          exact ih hf V (lv_sub hl [1, 2, 3, 0] rfl) ⟨by omega, by omega⟩
        · replace hf := if_f hf c240
          refine lv_iconst (pc := 679) (v := (ii 0)) hx hb dL_law_679 (by decide) ?_
          cases hf
          exact x_zretW (pc := 680) X V hr (by omega) (by omega) (by decide) dL_law_680
      replace hf := if_f hf c226
      by_cases c242 : ((xs (x3).toNatClampNeg) &&& (ii 63)) = (ii 17)
      · replace hf := if_t hf c242
        refine x_tswIn (pc := 33) (tgt := 681) (off := 648) hx hb c242 dL_law_33 (by decide) (by decide) (by decide) (by decide) ?_
        refine lv_aload_n (pc := 681) hx hb dL_law_681 rfl (lv_at hl 1 rfl) ?_
        refine lv_aload_n (pc := 682) hx hb dL_law_682 rfl (lv_at hl 0 rfl) ?_
        refine lv_iload_n (pc := 683) hx hb dL_law_683 rfl (lv_at hl 3 rfl) ?_
        refine lv_iconst (pc := 684) (v := (ii 1)) hx hb dL_law_684 (by decide) ?_
        refine lv_iadd (pc := 685) hx hb dL_law_685 ?_
        replace hf := chk_s hf; obtain ⟨hq243, hf⟩ := hf
        refine x_sld (pc := 686) X V hXs hq243 dL_law_686 ?_
        refine lv_aload_n (pc := 687) hx hb dL_law_687 rfl (lv_at hl 0 rfl) ?_
        refine lv_iload_n (pc := 688) hx hb dL_law_688 rfl (lv_at hl 3 rfl) ?_
        refine lv_iconst (pc := 689) (v := (ii 2)) hx hb dL_law_689 (by decide) ?_
        refine lv_iadd (pc := 690) hx hb dL_law_690 ?_
        replace hf := chk_s hf; obtain ⟨hq244, hf⟩ := hf
        refine x_sld (pc := 691) X V hXs hq244 dL_law_691 ?_
        replace hf := tg_s hf; obtain ⟨ht249, hf⟩ := hf
        replace hf := b3s hf; obtain ⟨r245, I246, R247, hk_248, hf⟩ := hf
        refine x_callV0 (pc := 692) (As := [.int (xs ((x3 + (ii 1))).toNatClampNeg), .int (xs ((x3 + (ii 2))).toNatClampNeg)]) (rest := []) X V (mX0_lead l D dA s0 hk_248) okX0 ht249 q1252 q1253 q1254 q119 q1255 ⟨rfl, hsX0_lead⟩ ⟨Nat.le_of_ble_eq_true rfl, Nat.le_of_ble_eq_true rfl⟩ rfl hl.1 rfl (Nat.le_of_ble_eq_true rfl) dL_law_692 ⟨by show cells ≤ kc; omega, by show slots ≤ ks; omega⟩ (fun H locs V => W.eq (g2 := F0 m 695 ls [.int r245]) rfl ?_)
        refine lv_aload_n (pc := 695) hx hb dL_law_695 rfl (lv_at hl 2 rfl) ?_
        refine lv_aload_n (pc := 696) hx hb dL_law_696 rfl (lv_at hl 0 rfl) ?_
        refine lv_iload_n (pc := 697) hx hb dL_law_697 rfl (lv_at hl 3 rfl) ?_
        refine lv_iconst (pc := 698) (v := (ii 1)) hx hb dL_law_698 (by decide) ?_
        refine lv_iadd (pc := 699) hx hb dL_law_699 ?_
        replace hf := chk_s hf; obtain ⟨hq250, hf⟩ := hf
        refine x_sld (pc := 700) X V hXs hq250 dL_law_700 ?_
        refine lv_aload_n (pc := 701) hx hb dL_law_701 rfl (lv_at hl 0 rfl) ?_
        refine lv_iload_n (pc := 702) hx hb dL_law_702 rfl (lv_at hl 3 rfl) ?_
        refine lv_iconst (pc := 703) (v := (ii 2)) hx hb dL_law_703 (by decide) ?_
        refine lv_iadd (pc := 704) hx hb dL_law_704 ?_
        replace hf := chk_s hf; obtain ⟨hq251, hf⟩ := hf
        refine x_sld (pc := 705) X V hXs hq251 dL_law_705 ?_
        replace hf := tg_s hf; obtain ⟨ht255, hf⟩ := hf
        replace hf := b2s hf; obtain ⟨r252, I253, hk_254, hf⟩ := hf
        refine x_callV0 (pc := 706) (As := [.int (xs ((x3 + (ii 1))).toNatClampNeg), .int (xs ((x3 + (ii 2))).toNatClampNeg)]) (rest := [.int r245]) X V (mX5_lead l D dA s0 hk_254) okX5 ht255 q2005 q2006 q2007 q129 q2008 ⟨rfl, hsX5_lead⟩ ⟨Nat.le_of_ble_eq_true rfl, Nat.le_of_ble_eq_true rfl⟩ rfl hl.1 rfl (Nat.le_of_ble_eq_true rfl) dL_law_706 ⟨by show cells ≤ kc; omega, by show slots ≤ ks; omega⟩ (fun H locs V => W.eq (g2 := F0 m 709 ls [.int r252, .int r245]) rfl ?_)
        refine lv_icmp_eq (pc := 709) (tgt := 1320) hx hb dL_law_709 (by decide) (fun c256 => ?_) (fun c256 => ?_)
        · replace hf := if_t hf c256
          replace hf := nm_s hf; obtain ⟨u257, hu257, hf⟩ := hf
          refine lv_iinc (pc := 1320) (v := u257) (lv' := [(3, .int u257), (0, .ref sb), (1, .ref x1), (2, .ref x2)]) hx hb dL_law_1320 hl (k := 3) rfl (by rw [hu257]; rfl) (by decide) rfl (fun ls hl => ?_)
          refine lv_goto (pc := 1323) (tgt := 18) hx hb dL_law_1323 (by decide) ?_
          exact ih hf V (lv_sub hl [1, 2, 3, 0] rfl) ⟨by omega, by omega⟩
        · replace hf := if_f hf c256
          refine lv_iconst (pc := 712) (v := (ii 0)) hx hb dL_law_712 (by decide) ?_
          cases hf
          exact x_zretW (pc := 713) X V hr (by omega) (by omega) (by decide) dL_law_713
      replace hf := if_f hf c242
      by_cases c258 : ((xs (x3).toNatClampNeg) &&& (ii 63)) = (ii 18)
      · replace hf := if_t hf c258
        refine x_tswIn (pc := 33) (tgt := 714) (off := 681) hx hb c258 dL_law_33 (by decide) (by decide) (by decide) (by decide) ?_
        refine lv_aload_n (pc := 714) hx hb dL_law_714 rfl (lv_at hl 1 rfl) ?_
        replace hf := tg_s hf; obtain ⟨ht264, hf⟩ := hf
        replace hf := b4s hf; obtain ⟨r259, I260, L261, R262, hk_263, hf⟩ := hf
        refine x_callV0 (pc := 715) (As := []) (rest := []) X V (mX0_pass l D dA s0 hk_263) okX0 ht264 q1260 q1261 q1262 q119 q1263 ⟨rfl, hsX0_pass⟩ ⟨Nat.le_of_ble_eq_true rfl, Nat.le_of_ble_eq_true rfl⟩ rfl hl.1 rfl (Nat.le_of_ble_eq_true rfl) dL_law_715 ⟨by show cells ≤ kc; omega, by show slots ≤ ks; omega⟩ (fun H locs V => W.eq (g2 := F0 m 718 ls [.int r259]) rfl ?_)
        refine lv_aload_n (pc := 718) hx hb dL_law_718 rfl (lv_at hl 2 rfl) ?_
        replace hf := tg_s hf; obtain ⟨ht269, hf⟩ := hf
        replace hf := b3s hf; obtain ⟨r265, I266, L267, hk_268, hf⟩ := hf
        refine x_callV0 (pc := 719) (As := []) (rest := [.int r259]) X V (mX5_pass l D dA s0 hk_268) okX5 ht269 q2013 q2014 q2015 q129 q2016 ⟨rfl, hsX5_pass⟩ ⟨Nat.le_of_ble_eq_true rfl, Nat.le_of_ble_eq_true rfl⟩ rfl hl.1 rfl (Nat.le_of_ble_eq_true rfl) dL_law_719 ⟨by show cells ≤ kc; omega, by show slots ≤ ks; omega⟩ (fun H locs V => W.eq (g2 := F0 m 722 ls [.int r265, .int r259]) rfl ?_)
        refine lv_icmp_eq (pc := 722) (tgt := 1320) hx hb dL_law_722 (by decide) (fun c270 => ?_) (fun c270 => ?_)
        · replace hf := if_t hf c270
          replace hf := nm_s hf; obtain ⟨u271, hu271, hf⟩ := hf
          refine lv_iinc (pc := 1320) (v := u271) (lv' := [(3, .int u271), (0, .ref sb), (1, .ref x1), (2, .ref x2)]) hx hb dL_law_1320 hl (k := 3) rfl (by rw [hu271]; rfl) (by decide) rfl (fun ls hl => ?_)
          refine lv_goto (pc := 1323) (tgt := 18) hx hb dL_law_1323 (by decide) ?_
          exact ih hf V (lv_sub hl [1, 2, 3, 0] rfl) ⟨by omega, by omega⟩
        · replace hf := if_f hf c270
          refine lv_iconst (pc := 725) (v := (ii 0)) hx hb dL_law_725 (by decide) ?_
          cases hf
          exact x_zretW (pc := 726) X V hr (by omega) (by omega) (by decide) dL_law_726
      replace hf := if_f hf c258
      by_cases c272 : ((xs (x3).toNatClampNeg) &&& (ii 63)) = (ii 19)
      · replace hf := if_t hf c272
        refine x_tswIn (pc := 33) (tgt := 727) (off := 694) hx hb c272 dL_law_33 (by decide) (by decide) (by decide) (by decide) ?_
        refine lv_aload_n (pc := 727) hx hb dL_law_727 rfl (lv_at hl 1 rfl) ?_
        replace hf := tg_s hf; obtain ⟨ht276, hf⟩ := hf
        replace hf := b2s hf; obtain ⟨r273, I274, hk_275, hf⟩ := hf
        refine x_callV0 (pc := 728) (As := []) (rest := []) X V (mX0_undo l D dA s0 hk_275) okX0 ht276 q1272 q1273 q1274 q119 q1275 ⟨rfl, hsX0_undo⟩ ⟨Nat.le_of_ble_eq_true rfl, Nat.le_of_ble_eq_true rfl⟩ rfl hl.1 rfl (Nat.le_of_ble_eq_true rfl) dL_law_728 ⟨by show cells ≤ kc; omega, by show slots ≤ ks; omega⟩ (fun H locs V => W.eq (g2 := F0 m 731 ls [.int r273]) rfl ?_)
        refine lv_aload_n (pc := 731) hx hb dL_law_731 rfl (lv_at hl 2 rfl) ?_
        replace hf := tg_s hf; obtain ⟨ht280, hf⟩ := hf
        replace hf := b2s hf; obtain ⟨r277, I278, hk_279, hf⟩ := hf
        refine x_callV0 (pc := 732) (As := []) (rest := [.int r273]) X V (mX5_undo l D dA s0 hk_279) okX5 ht280 q1697 q1698 q1699 q129 q1700 ⟨rfl, hsX5_undo⟩ ⟨Nat.le_of_ble_eq_true rfl, Nat.le_of_ble_eq_true rfl⟩ rfl hl.1 rfl (Nat.le_of_ble_eq_true rfl) dL_law_732 ⟨by show cells ≤ kc; omega, by show slots ≤ ks; omega⟩ (fun H locs V => W.eq (g2 := F0 m 735 ls [.int r277, .int r273]) rfl ?_)
        refine lv_icmp_eq (pc := 735) (tgt := 1320) hx hb dL_law_735 (by decide) (fun c281 => ?_) (fun c281 => ?_)
        · replace hf := if_t hf c281
          replace hf := nm_s hf; obtain ⟨u282, hu282, hf⟩ := hf
          refine lv_iinc (pc := 1320) (v := u282) (lv' := [(3, .int u282), (0, .ref sb), (1, .ref x1), (2, .ref x2)]) hx hb dL_law_1320 hl (k := 3) rfl (by rw [hu282]; rfl) (by decide) rfl (fun ls hl => ?_)
          refine lv_goto (pc := 1323) (tgt := 18) hx hb dL_law_1323 (by decide) ?_
          exact ih hf V (lv_sub hl [1, 2, 3, 0] rfl) ⟨by omega, by omega⟩
        · replace hf := if_f hf c281
          refine lv_iconst (pc := 738) (v := (ii 0)) hx hb dL_law_738 (by decide) ?_
          cases hf
          exact x_zretW (pc := 739) X V hr (by omega) (by omega) (by decide) dL_law_739
      replace hf := if_f hf c272
      by_cases c283 : ((xs (x3).toNatClampNeg) &&& (ii 63)) = (ii 20)
      · replace hf := if_t hf c283
        refine x_tswIn (pc := 33) (tgt := 740) (off := 707) hx hb c283 dL_law_33 (by decide) (by decide) (by decide) (by decide) ?_
        refine lv_aload_n (pc := 740) hx hb dL_law_740 rfl (lv_at hl 1 rfl) ?_
        refine lv_aload_n (pc := 741) hx hb dL_law_741 rfl (lv_at hl 0 rfl) ?_
        refine lv_iload_n (pc := 742) hx hb dL_law_742 rfl (lv_at hl 3 rfl) ?_
        refine lv_iconst (pc := 743) (v := (ii 1)) hx hb dL_law_743 (by decide) ?_
        refine lv_iadd (pc := 744) hx hb dL_law_744 ?_
        replace hf := chk_s hf; obtain ⟨hq284, hf⟩ := hf
        refine x_sld (pc := 745) X V hXs hq284 dL_law_745 ?_
        refine lv_aload_n (pc := 746) hx hb dL_law_746 rfl (lv_at hl 0 rfl) ?_
        refine lv_iload_n (pc := 747) hx hb dL_law_747 rfl (lv_at hl 3 rfl) ?_
        refine lv_iconst (pc := 748) (v := (ii 2)) hx hb dL_law_748 (by decide) ?_
        refine lv_iadd (pc := 749) hx hb dL_law_749 ?_
        replace hf := chk_s hf; obtain ⟨hq285, hf⟩ := hf
        refine x_sld (pc := 750) X V hXs hq285 dL_law_750 ?_
        replace hf := tg_s hf; obtain ⟨ht290, hf⟩ := hf
        replace hf := b3s hf; obtain ⟨r286, I287, L288, hk_289, hf⟩ := hf
        refine x_callV0 (pc := 751) (As := [.int (xs ((x3 + (ii 1))).toNatClampNeg), .int (xs ((x3 + (ii 2))).toNatClampNeg)]) (rest := []) X V (mX0_where l D dA s0 hk_289) okX0 ht290 q1276 q1277 q1278 q119 q1279 ⟨rfl, hsX0_where⟩ ⟨Nat.le_of_ble_eq_true rfl, Nat.le_of_ble_eq_true rfl⟩ rfl hl.1 rfl (Nat.le_of_ble_eq_true rfl) dL_law_751 ⟨by show cells ≤ kc; omega, by show slots ≤ ks; omega⟩ (fun H locs V => W.eq (g2 := F0 m 754 ls [.int r286]) rfl ?_)
        refine lv_aload_n (pc := 754) hx hb dL_law_754 rfl (lv_at hl 2 rfl) ?_
        refine lv_aload_n (pc := 755) hx hb dL_law_755 rfl (lv_at hl 0 rfl) ?_
        refine lv_iload_n (pc := 756) hx hb dL_law_756 rfl (lv_at hl 3 rfl) ?_
        refine lv_iconst (pc := 757) (v := (ii 1)) hx hb dL_law_757 (by decide) ?_
        refine lv_iadd (pc := 758) hx hb dL_law_758 ?_
        replace hf := chk_s hf; obtain ⟨hq291, hf⟩ := hf
        refine x_sld (pc := 759) X V hXs hq291 dL_law_759 ?_
        refine lv_aload_n (pc := 760) hx hb dL_law_760 rfl (lv_at hl 0 rfl) ?_
        refine lv_iload_n (pc := 761) hx hb dL_law_761 rfl (lv_at hl 3 rfl) ?_
        refine lv_iconst (pc := 762) (v := (ii 2)) hx hb dL_law_762 (by decide) ?_
        refine lv_iadd (pc := 763) hx hb dL_law_763 ?_
        replace hf := chk_s hf; obtain ⟨hq292, hf⟩ := hf
        refine x_sld (pc := 764) X V hXs hq292 dL_law_764 ?_
        replace hf := tg_s hf; obtain ⟨ht297, hf⟩ := hf
        replace hf := b3s hf; obtain ⟨r293, I294, L295, hk_296, hf⟩ := hf
        refine x_callV0 (pc := 765) (As := [.int (xs ((x3 + (ii 1))).toNatClampNeg), .int (xs ((x3 + (ii 2))).toNatClampNeg)]) (rest := [.int r286]) X V (mX5_where l D dA s0 hk_296) okX5 ht297 q2025 q2026 q2027 q129 q2028 ⟨rfl, hsX5_where⟩ ⟨Nat.le_of_ble_eq_true rfl, Nat.le_of_ble_eq_true rfl⟩ rfl hl.1 rfl (Nat.le_of_ble_eq_true rfl) dL_law_765 ⟨by show cells ≤ kc; omega, by show slots ≤ ks; omega⟩ (fun H locs V => W.eq (g2 := F0 m 768 ls [.int r293, .int r286]) rfl ?_)
        refine lv_icmp_eq (pc := 768) (tgt := 1320) hx hb dL_law_768 (by decide) (fun c298 => ?_) (fun c298 => ?_)
        · replace hf := if_t hf c298
          replace hf := nm_s hf; obtain ⟨u299, hu299, hf⟩ := hf
          refine lv_iinc (pc := 1320) (v := u299) (lv' := [(3, .int u299), (0, .ref sb), (1, .ref x1), (2, .ref x2)]) hx hb dL_law_1320 hl (k := 3) rfl (by rw [hu299]; rfl) (by decide) rfl (fun ls hl => ?_)
          refine lv_goto (pc := 1323) (tgt := 18) hx hb dL_law_1323 (by decide) ?_
          exact ih hf V (lv_sub hl [1, 2, 3, 0] rfl) ⟨by omega, by omega⟩
        · replace hf := if_f hf c298
          refine lv_iconst (pc := 771) (v := (ii 0)) hx hb dL_law_771 (by decide) ?_
          cases hf
          exact x_zretW (pc := 772) X V hr (by omega) (by omega) (by decide) dL_law_772
      replace hf := if_f hf c283
      by_cases c300 : ((xs (x3).toNatClampNeg) &&& (ii 63)) = (ii 21)
      · replace hf := if_t hf c300
        refine x_tswIn (pc := 33) (tgt := 773) (off := 740) hx hb c300 dL_law_33 (by decide) (by decide) (by decide) (by decide) ?_
        refine lv_aload_n (pc := 773) hx hb dL_law_773 rfl (lv_at hl 1 rfl) ?_
        refine lv_aload_n (pc := 774) hx hb dL_law_774 rfl (lv_at hl 0 rfl) ?_
        refine lv_iload_n (pc := 775) hx hb dL_law_775 rfl (lv_at hl 3 rfl) ?_
        refine lv_iconst (pc := 776) (v := (ii 1)) hx hb dL_law_776 (by decide) ?_
        refine lv_iadd (pc := 777) hx hb dL_law_777 ?_
        replace hf := chk_s hf; obtain ⟨hq301, hf⟩ := hf
        refine x_sld (pc := 778) X V hXs hq301 dL_law_778 ?_
        refine lv_aload_n (pc := 779) hx hb dL_law_779 rfl (lv_at hl 0 rfl) ?_
        refine lv_iload_n (pc := 780) hx hb dL_law_780 rfl (lv_at hl 3 rfl) ?_
        refine lv_iconst (pc := 781) (v := (ii 2)) hx hb dL_law_781 (by decide) ?_
        refine lv_iadd (pc := 782) hx hb dL_law_782 ?_
        replace hf := chk_s hf; obtain ⟨hq302, hf⟩ := hf
        refine x_sld (pc := 783) X V hXs hq302 dL_law_783 ?_
        replace hf := tg_s hf; obtain ⟨ht306, hf⟩ := hf
        replace hf := b2s hf; obtain ⟨r303, I304, hk_305, hf⟩ := hf
        refine x_callV0 (pc := 784) (As := [.int (xs ((x3 + (ii 1))).toNatClampNeg), .int (xs ((x3 + (ii 2))).toNatClampNeg)]) (rest := []) X V (mX0_far l D dA s0 hk_305) okX0 ht306 q1284 q1285 q1286 q119 q1287 ⟨rfl, hsX0_far⟩ ⟨Nat.le_of_ble_eq_true rfl, Nat.le_of_ble_eq_true rfl⟩ rfl hl.1 rfl (Nat.le_of_ble_eq_true rfl) dL_law_784 ⟨by show cells ≤ kc; omega, by show slots ≤ ks; omega⟩ (fun H locs V => W.eq (g2 := F0 m 787 ls [.int r303]) rfl ?_)
        refine lv_aload_n (pc := 787) hx hb dL_law_787 rfl (lv_at hl 2 rfl) ?_
        refine lv_aload_n (pc := 788) hx hb dL_law_788 rfl (lv_at hl 0 rfl) ?_
        refine lv_iload_n (pc := 789) hx hb dL_law_789 rfl (lv_at hl 3 rfl) ?_
        refine lv_iconst (pc := 790) (v := (ii 1)) hx hb dL_law_790 (by decide) ?_
        refine lv_iadd (pc := 791) hx hb dL_law_791 ?_
        replace hf := chk_s hf; obtain ⟨hq307, hf⟩ := hf
        refine x_sld (pc := 792) X V hXs hq307 dL_law_792 ?_
        refine lv_aload_n (pc := 793) hx hb dL_law_793 rfl (lv_at hl 0 rfl) ?_
        refine lv_iload_n (pc := 794) hx hb dL_law_794 rfl (lv_at hl 3 rfl) ?_
        refine lv_iconst (pc := 795) (v := (ii 2)) hx hb dL_law_795 (by decide) ?_
        refine lv_iadd (pc := 796) hx hb dL_law_796 ?_
        replace hf := chk_s hf; obtain ⟨hq308, hf⟩ := hf
        refine x_sld (pc := 797) X V hXs hq308 dL_law_797 ?_
        replace hf := tg_s hf; obtain ⟨ht312, hf⟩ := hf
        replace hf := b2s hf; obtain ⟨r309, I310, hk_311, hf⟩ := hf
        refine x_callV0 (pc := 798) (As := [.int (xs ((x3 + (ii 1))).toNatClampNeg), .int (xs ((x3 + (ii 2))).toNatClampNeg)]) (rest := [.int r303]) X V (mX5_far l D dA s0 hk_311) okX5 ht312 q2030 q2031 q2032 q129 q2033 ⟨rfl, hsX5_far⟩ ⟨Nat.le_of_ble_eq_true rfl, Nat.le_of_ble_eq_true rfl⟩ rfl hl.1 rfl (Nat.le_of_ble_eq_true rfl) dL_law_798 ⟨by show cells ≤ kc; omega, by show slots ≤ ks; omega⟩ (fun H locs V => W.eq (g2 := F0 m 801 ls [.int r309, .int r303]) rfl ?_)
        refine lv_icmp_eq (pc := 801) (tgt := 1320) hx hb dL_law_801 (by decide) (fun c313 => ?_) (fun c313 => ?_)
        · replace hf := if_t hf c313
          replace hf := nm_s hf; obtain ⟨u314, hu314, hf⟩ := hf
          refine lv_iinc (pc := 1320) (v := u314) (lv' := [(3, .int u314), (0, .ref sb), (1, .ref x1), (2, .ref x2)]) hx hb dL_law_1320 hl (k := 3) rfl (by rw [hu314]; rfl) (by decide) rfl (fun ls hl => ?_)
          refine lv_goto (pc := 1323) (tgt := 18) hx hb dL_law_1323 (by decide) ?_
          exact ih hf V (lv_sub hl [1, 2, 3, 0] rfl) ⟨by omega, by omega⟩
        · replace hf := if_f hf c313
          refine lv_iconst (pc := 804) (v := (ii 0)) hx hb dL_law_804 (by decide) ?_
          cases hf
          exact x_zretW (pc := 805) X V hr (by omega) (by omega) (by decide) dL_law_805
      replace hf := if_f hf c300
      by_cases c315 : ((xs (x3).toNatClampNeg) &&& (ii 63)) = (ii 22)
      · replace hf := if_t hf c315
        refine x_tswIn (pc := 33) (tgt := 806) (off := 773) hx hb c315 dL_law_33 (by decide) (by decide) (by decide) (by decide) ?_
        refine lv_aload_n (pc := 806) hx hb dL_law_806 rfl (lv_at hl 1 rfl) ?_
        refine lv_aload_n (pc := 807) hx hb dL_law_807 rfl (lv_at hl 0 rfl) ?_
        refine lv_iload_n (pc := 808) hx hb dL_law_808 rfl (lv_at hl 3 rfl) ?_
        refine lv_iconst (pc := 809) (v := (ii 1)) hx hb dL_law_809 (by decide) ?_
        refine lv_iadd (pc := 810) hx hb dL_law_810 ?_
        replace hf := chk_s hf; obtain ⟨hq316, hf⟩ := hf
        refine x_sld (pc := 811) X V hXs hq316 dL_law_811 ?_
        refine lv_aload_n (pc := 812) hx hb dL_law_812 rfl (lv_at hl 0 rfl) ?_
        refine lv_iload_n (pc := 813) hx hb dL_law_813 rfl (lv_at hl 3 rfl) ?_
        refine lv_iconst (pc := 814) (v := (ii 2)) hx hb dL_law_814 (by decide) ?_
        refine lv_iadd (pc := 815) hx hb dL_law_815 ?_
        replace hf := chk_s hf; obtain ⟨hq317, hf⟩ := hf
        refine x_sld (pc := 816) X V hXs hq317 dL_law_816 ?_
        replace hf := tg_s hf; obtain ⟨ht322, hf⟩ := hf
        replace hf := b3s hf; obtain ⟨r318, I319, L320, hk_321, hf⟩ := hf
        refine x_callV0 (pc := 817) (As := [.int (xs ((x3 + (ii 1))).toNatClampNeg), .int (xs ((x3 + (ii 2))).toNatClampNeg)]) (rest := []) X V (mX0_found l D dA s0 hk_321) okX0 ht322 q1298 q1299 q1300 q119 q1301 ⟨rfl, hsX0_found⟩ ⟨Nat.le_of_ble_eq_true rfl, Nat.le_of_ble_eq_true rfl⟩ rfl hl.1 rfl (Nat.le_of_ble_eq_true rfl) dL_law_817 ⟨by show cells ≤ kc; omega, by show slots ≤ ks; omega⟩ (fun H locs V => W.eq (g2 := F0 m 820 ls [.int r318]) rfl ?_)
        refine lv_aload_n (pc := 820) hx hb dL_law_820 rfl (lv_at hl 2 rfl) ?_
        refine lv_aload_n (pc := 821) hx hb dL_law_821 rfl (lv_at hl 0 rfl) ?_
        refine lv_iload_n (pc := 822) hx hb dL_law_822 rfl (lv_at hl 3 rfl) ?_
        refine lv_iconst (pc := 823) (v := (ii 1)) hx hb dL_law_823 (by decide) ?_
        refine lv_iadd (pc := 824) hx hb dL_law_824 ?_
        replace hf := chk_s hf; obtain ⟨hq323, hf⟩ := hf
        refine x_sld (pc := 825) X V hXs hq323 dL_law_825 ?_
        refine lv_aload_n (pc := 826) hx hb dL_law_826 rfl (lv_at hl 0 rfl) ?_
        refine lv_iload_n (pc := 827) hx hb dL_law_827 rfl (lv_at hl 3 rfl) ?_
        refine lv_iconst (pc := 828) (v := (ii 2)) hx hb dL_law_828 (by decide) ?_
        refine lv_iadd (pc := 829) hx hb dL_law_829 ?_
        replace hf := chk_s hf; obtain ⟨hq324, hf⟩ := hf
        refine x_sld (pc := 830) X V hXs hq324 dL_law_830 ?_
        replace hf := tg_s hf; obtain ⟨ht329, hf⟩ := hf
        replace hf := b3s hf; obtain ⟨r325, I326, L327, hk_328, hf⟩ := hf
        refine x_callV0 (pc := 831) (As := [.int (xs ((x3 + (ii 1))).toNatClampNeg), .int (xs ((x3 + (ii 2))).toNatClampNeg)]) (rest := [.int r318]) X V (mX5_found l D dA s0 hk_328) okX5 ht329 q2043 q2044 q2045 q129 q2046 ⟨rfl, hsX5_found⟩ ⟨Nat.le_of_ble_eq_true rfl, Nat.le_of_ble_eq_true rfl⟩ rfl hl.1 rfl (Nat.le_of_ble_eq_true rfl) dL_law_831 ⟨by show cells ≤ kc; omega, by show slots ≤ ks; omega⟩ (fun H locs V => W.eq (g2 := F0 m 834 ls [.int r325, .int r318]) rfl ?_)
        refine lv_icmp_eq (pc := 834) (tgt := 1320) hx hb dL_law_834 (by decide) (fun c330 => ?_) (fun c330 => ?_)
        · replace hf := if_t hf c330
          replace hf := nm_s hf; obtain ⟨u331, hu331, hf⟩ := hf
          refine lv_iinc (pc := 1320) (v := u331) (lv' := [(3, .int u331), (0, .ref sb), (1, .ref x1), (2, .ref x2)]) hx hb dL_law_1320 hl (k := 3) rfl (by rw [hu331]; rfl) (by decide) rfl (fun ls hl => ?_)
          refine lv_goto (pc := 1323) (tgt := 18) hx hb dL_law_1323 (by decide) ?_
          exact ih hf V (lv_sub hl [1, 2, 3, 0] rfl) ⟨by omega, by omega⟩
        · replace hf := if_f hf c330
          refine lv_iconst (pc := 837) (v := (ii 0)) hx hb dL_law_837 (by decide) ?_
          cases hf
          exact x_zretW (pc := 838) X V hr (by omega) (by omega) (by decide) dL_law_838
      replace hf := if_f hf c315
      by_cases c332 : ((xs (x3).toNatClampNeg) &&& (ii 63)) = (ii 23)
      · replace hf := if_t hf c332
        refine x_tswIn (pc := 33) (tgt := 839) (off := 806) hx hb c332 dL_law_33 (by decide) (by decide) (by decide) (by decide) ?_
        refine lv_aload_n (pc := 839) hx hb dL_law_839 rfl (lv_at hl 1 rfl) ?_
        refine lv_aload_n (pc := 840) hx hb dL_law_840 rfl (lv_at hl 0 rfl) ?_
        refine lv_iload_n (pc := 841) hx hb dL_law_841 rfl (lv_at hl 3 rfl) ?_
        refine lv_iconst (pc := 842) (v := (ii 1)) hx hb dL_law_842 (by decide) ?_
        refine lv_iadd (pc := 843) hx hb dL_law_843 ?_
        replace hf := chk_s hf; obtain ⟨hq333, hf⟩ := hf
        refine x_sld (pc := 844) X V hXs hq333 dL_law_844 ?_
        replace hf := tg_s hf; obtain ⟨ht338, hf⟩ := hf
        replace hf := b3s hf; obtain ⟨r334, I335, L336, hk_337, hf⟩ := hf
        refine x_callV0 (pc := 845) (As := [.int (xs ((x3 + (ii 1))).toNatClampNeg)]) (rest := []) X V (mX0_post l D dA s0 hk_337) okX0 ht338 q1306 q1307 q1308 q119 q1309 ⟨rfl, hsX0_post⟩ ⟨Nat.le_of_ble_eq_true rfl, Nat.le_of_ble_eq_true rfl⟩ rfl hl.1 rfl (Nat.le_of_ble_eq_true rfl) dL_law_845 ⟨by show cells ≤ kc; omega, by show slots ≤ ks; omega⟩ (fun H locs V => W.eq (g2 := F0 m 848 ls [.int r334]) rfl ?_)
        refine lv_aload_n (pc := 848) hx hb dL_law_848 rfl (lv_at hl 2 rfl) ?_
        refine lv_aload_n (pc := 849) hx hb dL_law_849 rfl (lv_at hl 0 rfl) ?_
        refine lv_iload_n (pc := 850) hx hb dL_law_850 rfl (lv_at hl 3 rfl) ?_
        refine lv_iconst (pc := 851) (v := (ii 1)) hx hb dL_law_851 (by decide) ?_
        refine lv_iadd (pc := 852) hx hb dL_law_852 ?_
        replace hf := chk_s hf; obtain ⟨hq339, hf⟩ := hf
        refine x_sld (pc := 853) X V hXs hq339 dL_law_853 ?_
        replace hf := tg_s hf; obtain ⟨ht344, hf⟩ := hf
        replace hf := b3s hf; obtain ⟨r340, I341, L342, hk_343, hf⟩ := hf
        refine x_callV0 (pc := 854) (As := [.int (xs ((x3 + (ii 1))).toNatClampNeg)]) (rest := [.int r334]) X V (mX5_post l D dA s0 hk_343) okX5 ht344 q2051 q2052 q2053 q129 q2054 ⟨rfl, hsX5_post⟩ ⟨Nat.le_of_ble_eq_true rfl, Nat.le_of_ble_eq_true rfl⟩ rfl hl.1 rfl (Nat.le_of_ble_eq_true rfl) dL_law_854 ⟨by show cells ≤ kc; omega, by show slots ≤ ks; omega⟩ (fun H locs V => W.eq (g2 := F0 m 857 ls [.int r340, .int r334]) rfl ?_)
        refine lv_icmp_eq (pc := 857) (tgt := 1320) hx hb dL_law_857 (by decide) (fun c345 => ?_) (fun c345 => ?_)
        · replace hf := if_t hf c345
          replace hf := nm_s hf; obtain ⟨u346, hu346, hf⟩ := hf
          refine lv_iinc (pc := 1320) (v := u346) (lv' := [(3, .int u346), (0, .ref sb), (1, .ref x1), (2, .ref x2)]) hx hb dL_law_1320 hl (k := 3) rfl (by rw [hu346]; rfl) (by decide) rfl (fun ls hl => ?_)
          refine lv_goto (pc := 1323) (tgt := 18) hx hb dL_law_1323 (by decide) ?_
          exact ih hf V (lv_sub hl [1, 2, 3, 0] rfl) ⟨by omega, by omega⟩
        · replace hf := if_f hf c345
          refine lv_iconst (pc := 860) (v := (ii 0)) hx hb dL_law_860 (by decide) ?_
          cases hf
          exact x_zretW (pc := 861) X V hr (by omega) (by omega) (by decide) dL_law_861
      replace hf := if_f hf c332
      by_cases c347 : ((xs (x3).toNatClampNeg) &&& (ii 63)) = (ii 24)
      · replace hf := if_t hf c347
        refine x_tswIn (pc := 33) (tgt := 862) (off := 829) hx hb c347 dL_law_33 (by decide) (by decide) (by decide) (by decide) ?_
        refine lv_aload_n (pc := 862) hx hb dL_law_862 rfl (lv_at hl 1 rfl) ?_
        refine lv_aload_n (pc := 863) hx hb dL_law_863 rfl (lv_at hl 0 rfl) ?_
        refine lv_iload_n (pc := 864) hx hb dL_law_864 rfl (lv_at hl 3 rfl) ?_
        refine lv_iconst (pc := 865) (v := (ii 1)) hx hb dL_law_865 (by decide) ?_
        refine lv_iadd (pc := 866) hx hb dL_law_866 ?_
        replace hf := chk_s hf; obtain ⟨hq348, hf⟩ := hf
        refine x_sld (pc := 867) X V hXs hq348 dL_law_867 ?_
        refine lv_aload_n (pc := 868) hx hb dL_law_868 rfl (lv_at hl 0 rfl) ?_
        refine lv_iload_n (pc := 869) hx hb dL_law_869 rfl (lv_at hl 3 rfl) ?_
        refine lv_iconst (pc := 870) (v := (ii 2)) hx hb dL_law_870 (by decide) ?_
        refine lv_iadd (pc := 871) hx hb dL_law_871 ?_
        replace hf := chk_s hf; obtain ⟨hq349, hf⟩ := hf
        refine x_sld (pc := 872) X V hXs hq349 dL_law_872 ?_
        replace hf := tg_s hf; obtain ⟨ht353, hf⟩ := hf
        replace hf := b2s hf; obtain ⟨r350, I351, hk_352, hf⟩ := hf
        refine x_callV0 (pc := 873) (As := [.int (xs ((x3 + (ii 1))).toNatClampNeg), .int (xs ((x3 + (ii 2))).toNatClampNeg)]) (rest := []) X V (mX0_posts l D dA s0 hk_352) okX0 ht353 q1311 q1312 q1313 q119 q1314 ⟨rfl, hsX0_posts⟩ ⟨Nat.le_of_ble_eq_true rfl, Nat.le_of_ble_eq_true rfl⟩ rfl hl.1 rfl (Nat.le_of_ble_eq_true rfl) dL_law_873 ⟨by show cells ≤ kc; omega, by show slots ≤ ks; omega⟩ (fun H locs V => W.eq (g2 := F0 m 876 ls [.int r350]) rfl ?_)
        refine lv_aload_n (pc := 876) hx hb dL_law_876 rfl (lv_at hl 2 rfl) ?_
        refine lv_aload_n (pc := 877) hx hb dL_law_877 rfl (lv_at hl 0 rfl) ?_
        refine lv_iload_n (pc := 878) hx hb dL_law_878 rfl (lv_at hl 3 rfl) ?_
        refine lv_iconst (pc := 879) (v := (ii 1)) hx hb dL_law_879 (by decide) ?_
        refine lv_iadd (pc := 880) hx hb dL_law_880 ?_
        replace hf := chk_s hf; obtain ⟨hq354, hf⟩ := hf
        refine x_sld (pc := 881) X V hXs hq354 dL_law_881 ?_
        refine lv_aload_n (pc := 882) hx hb dL_law_882 rfl (lv_at hl 0 rfl) ?_
        refine lv_iload_n (pc := 883) hx hb dL_law_883 rfl (lv_at hl 3 rfl) ?_
        refine lv_iconst (pc := 884) (v := (ii 2)) hx hb dL_law_884 (by decide) ?_
        refine lv_iadd (pc := 885) hx hb dL_law_885 ?_
        replace hf := chk_s hf; obtain ⟨hq355, hf⟩ := hf
        refine x_sld (pc := 886) X V hXs hq355 dL_law_886 ?_
        replace hf := tg_s hf; obtain ⟨ht359, hf⟩ := hf
        replace hf := b2s hf; obtain ⟨r356, I357, hk_358, hf⟩ := hf
        refine x_callV0 (pc := 887) (As := [.int (xs ((x3 + (ii 1))).toNatClampNeg), .int (xs ((x3 + (ii 2))).toNatClampNeg)]) (rest := [.int r350]) X V (mX5_posts l D dA s0 hk_358) okX5 ht359 q2055 q2056 q2057 q129 q2058 ⟨rfl, hsX5_posts⟩ ⟨Nat.le_of_ble_eq_true rfl, Nat.le_of_ble_eq_true rfl⟩ rfl hl.1 rfl (Nat.le_of_ble_eq_true rfl) dL_law_887 ⟨by show cells ≤ kc; omega, by show slots ≤ ks; omega⟩ (fun H locs V => W.eq (g2 := F0 m 890 ls [.int r356, .int r350]) rfl ?_)
        refine lv_icmp_eq (pc := 890) (tgt := 1320) hx hb dL_law_890 (by decide) (fun c360 => ?_) (fun c360 => ?_)
        · replace hf := if_t hf c360
          replace hf := nm_s hf; obtain ⟨u361, hu361, hf⟩ := hf
          refine lv_iinc (pc := 1320) (v := u361) (lv' := [(3, .int u361), (0, .ref sb), (1, .ref x1), (2, .ref x2)]) hx hb dL_law_1320 hl (k := 3) rfl (by rw [hu361]; rfl) (by decide) rfl (fun ls hl => ?_)
          refine lv_goto (pc := 1323) (tgt := 18) hx hb dL_law_1323 (by decide) ?_
          exact ih hf V (lv_sub hl [1, 2, 3, 0] rfl) ⟨by omega, by omega⟩
        · replace hf := if_f hf c360
          refine lv_iconst (pc := 893) (v := (ii 0)) hx hb dL_law_893 (by decide) ?_
          cases hf
          exact x_zretW (pc := 894) X V hr (by omega) (by omega) (by decide) dL_law_894
      replace hf := if_f hf c347
      by_cases c362 : ((xs (x3).toNatClampNeg) &&& (ii 63)) = (ii 25)
      · replace hf := if_t hf c362
        refine x_tswIn (pc := 33) (tgt := 895) (off := 862) hx hb c362 dL_law_33 (by decide) (by decide) (by decide) (by decide) ?_
        refine lv_aload_n (pc := 895) hx hb dL_law_895 rfl (lv_at hl 1 rfl) ?_
        refine lv_aload_n (pc := 896) hx hb dL_law_896 rfl (lv_at hl 0 rfl) ?_
        refine lv_iload_n (pc := 897) hx hb dL_law_897 rfl (lv_at hl 3 rfl) ?_
        refine lv_iconst (pc := 898) (v := (ii 1)) hx hb dL_law_898 (by decide) ?_
        refine lv_iadd (pc := 899) hx hb dL_law_899 ?_
        replace hf := chk_s hf; obtain ⟨hq363, hf⟩ := hf
        refine x_sld (pc := 900) X V hXs hq363 dL_law_900 ?_
        replace hf := tg_s hf; obtain ⟨ht368, hf⟩ := hf
        replace hf := b3s hf; obtain ⟨r364, I365, L366, hk_367, hf⟩ := hf
        refine x_callV0 (pc := 901) (As := [.int (xs ((x3 + (ii 1))).toNatClampNeg)]) (rest := []) X V (mX0_again l D dA s0 hk_367) okX0 ht368 q1280 q1281 q1282 q119 q1283 ⟨rfl, hsX0_again⟩ ⟨Nat.le_of_ble_eq_true rfl, Nat.le_of_ble_eq_true rfl⟩ rfl hl.1 rfl (Nat.le_of_ble_eq_true rfl) dL_law_901 ⟨by show cells ≤ kc; omega, by show slots ≤ ks; omega⟩ (fun H locs V => W.eq (g2 := F0 m 904 ls [.int r364]) rfl ?_)
        refine lv_aload_n (pc := 904) hx hb dL_law_904 rfl (lv_at hl 2 rfl) ?_
        refine lv_aload_n (pc := 905) hx hb dL_law_905 rfl (lv_at hl 0 rfl) ?_
        refine lv_iload_n (pc := 906) hx hb dL_law_906 rfl (lv_at hl 3 rfl) ?_
        refine lv_iconst (pc := 907) (v := (ii 1)) hx hb dL_law_907 (by decide) ?_
        refine lv_iadd (pc := 908) hx hb dL_law_908 ?_
        replace hf := chk_s hf; obtain ⟨hq369, hf⟩ := hf
        refine x_sld (pc := 909) X V hXs hq369 dL_law_909 ?_
        replace hf := tg_s hf; obtain ⟨ht374, hf⟩ := hf
        replace hf := b3s hf; obtain ⟨r370, I371, L372, hk_373, hf⟩ := hf
        refine x_callV0 (pc := 910) (As := [.int (xs ((x3 + (ii 1))).toNatClampNeg)]) (rest := [.int r364]) X V (mX5_again l D dA s0 hk_373) okX5 ht374 q2074 q2075 q2076 q129 q2077 ⟨rfl, hsX5_again⟩ ⟨Nat.le_of_ble_eq_true rfl, Nat.le_of_ble_eq_true rfl⟩ rfl hl.1 rfl (Nat.le_of_ble_eq_true rfl) dL_law_910 ⟨by show cells ≤ kc; omega, by show slots ≤ ks; omega⟩ (fun H locs V => W.eq (g2 := F0 m 913 ls [.int r370, .int r364]) rfl ?_)
        refine lv_icmp_eq (pc := 913) (tgt := 1320) hx hb dL_law_913 (by decide) (fun c375 => ?_) (fun c375 => ?_)
        · replace hf := if_t hf c375
          replace hf := nm_s hf; obtain ⟨u376, hu376, hf⟩ := hf
          refine lv_iinc (pc := 1320) (v := u376) (lv' := [(3, .int u376), (0, .ref sb), (1, .ref x1), (2, .ref x2)]) hx hb dL_law_1320 hl (k := 3) rfl (by rw [hu376]; rfl) (by decide) rfl (fun ls hl => ?_)
          refine lv_goto (pc := 1323) (tgt := 18) hx hb dL_law_1323 (by decide) ?_
          exact ih hf V (lv_sub hl [1, 2, 3, 0] rfl) ⟨by omega, by omega⟩
        · replace hf := if_f hf c375
          refine lv_iconst (pc := 916) (v := (ii 0)) hx hb dL_law_916 (by decide) ?_
          cases hf
          exact x_zretW (pc := 917) X V hr (by omega) (by omega) (by decide) dL_law_917
      replace hf := if_f hf c362
      by_cases c377 : ((xs (x3).toNatClampNeg) &&& (ii 63)) = (ii 26)
      · replace hf := if_t hf c377
        refine x_tswIn (pc := 33) (tgt := 918) (off := 885) hx hb c377 dL_law_33 (by decide) (by decide) (by decide) (by decide) ?_
        refine lv_aload_n (pc := 918) hx hb dL_law_918 rfl (lv_at hl 1 rfl) ?_
        refine lv_aload_n (pc := 919) hx hb dL_law_919 rfl (lv_at hl 0 rfl) ?_
        refine lv_iload_n (pc := 920) hx hb dL_law_920 rfl (lv_at hl 3 rfl) ?_
        refine lv_iconst (pc := 921) (v := (ii 1)) hx hb dL_law_921 (by decide) ?_
        refine lv_iadd (pc := 922) hx hb dL_law_922 ?_
        replace hf := chk_s hf; obtain ⟨hq378, hf⟩ := hf
        refine x_sld (pc := 923) X V hXs hq378 dL_law_923 ?_
        replace hf := tg_s hf; obtain ⟨ht382, hf⟩ := hf
        replace hf := b2s hf; obtain ⟨r379, I380, hk_381, hf⟩ := hf
        refine x_callV0 (pc := 924) (As := [.int (xs ((x3 + (ii 1))).toNatClampNeg)]) (rest := []) X V (mX0_hear l D dA s0 hk_381) okX0 ht382 q1335 q1336 q1337 q119 q1338 ⟨rfl, hsX0_hear⟩ ⟨Nat.le_of_ble_eq_true rfl, Nat.le_of_ble_eq_true rfl⟩ rfl hl.1 rfl (Nat.le_of_ble_eq_true rfl) dL_law_924 ⟨by show cells ≤ kc; omega, by show slots ≤ ks; omega⟩ (fun H locs V => W.eq (g2 := F0 m 927 ls [.int r379]) rfl ?_)
        refine lv_aload_n (pc := 927) hx hb dL_law_927 rfl (lv_at hl 2 rfl) ?_
        refine lv_aload_n (pc := 928) hx hb dL_law_928 rfl (lv_at hl 0 rfl) ?_
        refine lv_iload_n (pc := 929) hx hb dL_law_929 rfl (lv_at hl 3 rfl) ?_
        refine lv_iconst (pc := 930) (v := (ii 1)) hx hb dL_law_930 (by decide) ?_
        refine lv_iadd (pc := 931) hx hb dL_law_931 ?_
        replace hf := chk_s hf; obtain ⟨hq383, hf⟩ := hf
        refine x_sld (pc := 932) X V hXs hq383 dL_law_932 ?_
        replace hf := tg_s hf; obtain ⟨ht387, hf⟩ := hf
        replace hf := b2s hf; obtain ⟨r384, I385, hk_386, hf⟩ := hf
        refine x_callV0 (pc := 933) (As := [.int (xs ((x3 + (ii 1))).toNatClampNeg)]) (rest := [.int r379]) X V (mX5_hear l D dA s0 hk_386) okX5 ht387 q2078 q2079 q2080 q129 q2081 ⟨rfl, hsX5_hear⟩ ⟨Nat.le_of_ble_eq_true rfl, Nat.le_of_ble_eq_true rfl⟩ rfl hl.1 rfl (Nat.le_of_ble_eq_true rfl) dL_law_933 ⟨by show cells ≤ kc; omega, by show slots ≤ ks; omega⟩ (fun H locs V => W.eq (g2 := F0 m 936 ls [.int r384, .int r379]) rfl ?_)
        refine lv_icmp_eq (pc := 936) (tgt := 1320) hx hb dL_law_936 (by decide) (fun c388 => ?_) (fun c388 => ?_)
        · replace hf := if_t hf c388
          replace hf := nm_s hf; obtain ⟨u389, hu389, hf⟩ := hf
          refine lv_iinc (pc := 1320) (v := u389) (lv' := [(3, .int u389), (0, .ref sb), (1, .ref x1), (2, .ref x2)]) hx hb dL_law_1320 hl (k := 3) rfl (by rw [hu389]; rfl) (by decide) rfl (fun ls hl => ?_)
          refine lv_goto (pc := 1323) (tgt := 18) hx hb dL_law_1323 (by decide) ?_
          exact ih hf V (lv_sub hl [1, 2, 3, 0] rfl) ⟨by omega, by omega⟩
        · replace hf := if_f hf c388
          refine lv_iconst (pc := 939) (v := (ii 0)) hx hb dL_law_939 (by decide) ?_
          cases hf
          exact x_zretW (pc := 940) X V hr (by omega) (by omega) (by decide) dL_law_940
      replace hf := if_f hf c377
      by_cases c390 : ((xs (x3).toNatClampNeg) &&& (ii 63)) = (ii 27)
      · replace hf := if_t hf c390
        refine x_tswIn (pc := 33) (tgt := 941) (off := 908) hx hb c390 dL_law_33 (by decide) (by decide) (by decide) (by decide) ?_
        refine lv_aload_n (pc := 941) hx hb dL_law_941 rfl (lv_at hl 1 rfl) ?_
        replace hf := tg_s hf; obtain ⟨ht394, hf⟩ := hf
        replace hf := b2s hf; obtain ⟨r391, I392, hk_393, hf⟩ := hf
        refine x_callV0 (pc := 942) (As := []) (rest := []) X V (mX0_forget l D dA s0 hk_393) okX0 ht394 q1339 q1340 q1341 q119 q1342 ⟨rfl, hsX0_forget⟩ ⟨Nat.le_of_ble_eq_true rfl, Nat.le_of_ble_eq_true rfl⟩ rfl hl.1 rfl (Nat.le_of_ble_eq_true rfl) dL_law_942 ⟨by show cells ≤ kc; omega, by show slots ≤ ks; omega⟩ (fun H locs V => W.eq (g2 := F0 m 945 ls [.int r391]) rfl ?_)
        refine lv_aload_n (pc := 945) hx hb dL_law_945 rfl (lv_at hl 2 rfl) ?_
        replace hf := tg_s hf; obtain ⟨ht398, hf⟩ := hf
        replace hf := b2s hf; obtain ⟨r395, I396, hk_397, hf⟩ := hf
        refine x_callV0 (pc := 946) (As := []) (rest := [.int r391]) X V (mX5_forget l D dA s0 hk_397) okX5 ht398 q2083 q2084 q2085 q129 q2086 ⟨rfl, hsX5_forget⟩ ⟨Nat.le_of_ble_eq_true rfl, Nat.le_of_ble_eq_true rfl⟩ rfl hl.1 rfl (Nat.le_of_ble_eq_true rfl) dL_law_946 ⟨by show cells ≤ kc; omega, by show slots ≤ ks; omega⟩ (fun H locs V => W.eq (g2 := F0 m 949 ls [.int r395, .int r391]) rfl ?_)
        refine lv_icmp_eq (pc := 949) (tgt := 1320) hx hb dL_law_949 (by decide) (fun c399 => ?_) (fun c399 => ?_)
        · replace hf := if_t hf c399
          replace hf := nm_s hf; obtain ⟨u400, hu400, hf⟩ := hf
          refine lv_iinc (pc := 1320) (v := u400) (lv' := [(3, .int u400), (0, .ref sb), (1, .ref x1), (2, .ref x2)]) hx hb dL_law_1320 hl (k := 3) rfl (by rw [hu400]; rfl) (by decide) rfl (fun ls hl => ?_)
          refine lv_goto (pc := 1323) (tgt := 18) hx hb dL_law_1323 (by decide) ?_
          exact ih hf V (lv_sub hl [1, 2, 3, 0] rfl) ⟨by omega, by omega⟩
        · replace hf := if_f hf c399
          refine lv_iconst (pc := 952) (v := (ii 0)) hx hb dL_law_952 (by decide) ?_
          cases hf
          exact x_zretW (pc := 953) X V hr (by omega) (by omega) (by decide) dL_law_953
      replace hf := if_f hf c390
      by_cases c401 : ((xs (x3).toNatClampNeg) &&& (ii 63)) = (ii 28)
      · replace hf := if_t hf c401
        refine x_tswIn (pc := 33) (tgt := 954) (off := 921) hx hb c401 dL_law_33 (by decide) (by decide) (by decide) (by decide) ?_
        refine lv_aload_n (pc := 954) hx hb dL_law_954 rfl (lv_at hl 1 rfl) ?_
        refine lv_aload_n (pc := 955) hx hb dL_law_955 rfl (lv_at hl 0 rfl) ?_
        refine lv_iload_n (pc := 956) hx hb dL_law_956 rfl (lv_at hl 3 rfl) ?_
        refine lv_iconst (pc := 957) (v := (ii 1)) hx hb dL_law_957 (by decide) ?_
        refine lv_iadd (pc := 958) hx hb dL_law_958 ?_
        replace hf := chk_s hf; obtain ⟨hq402, hf⟩ := hf
        refine x_sld (pc := 959) X V hXs hq402 dL_law_959 ?_
        replace hf := tg_s hf; obtain ⟨ht406, hf⟩ := hf
        replace hf := b2s hf; obtain ⟨r403, I404, hk_405, hf⟩ := hf
        refine x_callV0 (pc := 960) (As := [.int (xs ((x3 + (ii 1))).toNatClampNeg)]) (rest := []) X V (mX0_gone l D dA s0 hk_405) okX0 ht406 q1343 q1344 q1345 q119 q1346 ⟨rfl, hsX0_gone⟩ ⟨Nat.le_of_ble_eq_true rfl, Nat.le_of_ble_eq_true rfl⟩ rfl hl.1 rfl (Nat.le_of_ble_eq_true rfl) dL_law_960 ⟨by show cells ≤ kc; omega, by show slots ≤ ks; omega⟩ (fun H locs V => W.eq (g2 := F0 m 963 ls [.int r403]) rfl ?_)
        refine lv_aload_n (pc := 963) hx hb dL_law_963 rfl (lv_at hl 2 rfl) ?_
        refine lv_aload_n (pc := 964) hx hb dL_law_964 rfl (lv_at hl 0 rfl) ?_
        refine lv_iload_n (pc := 965) hx hb dL_law_965 rfl (lv_at hl 3 rfl) ?_
        refine lv_iconst (pc := 966) (v := (ii 1)) hx hb dL_law_966 (by decide) ?_
        refine lv_iadd (pc := 967) hx hb dL_law_967 ?_
        replace hf := chk_s hf; obtain ⟨hq407, hf⟩ := hf
        refine x_sld (pc := 968) X V hXs hq407 dL_law_968 ?_
        replace hf := tg_s hf; obtain ⟨ht411, hf⟩ := hf
        replace hf := b2s hf; obtain ⟨r408, I409, hk_410, hf⟩ := hf
        refine x_callV0 (pc := 969) (As := [.int (xs ((x3 + (ii 1))).toNatClampNeg)]) (rest := [.int r403]) X V (mX5_gone l D dA s0 hk_410) okX5 ht411 q2087 q2088 q2089 q129 q2090 ⟨rfl, hsX5_gone⟩ ⟨Nat.le_of_ble_eq_true rfl, Nat.le_of_ble_eq_true rfl⟩ rfl hl.1 rfl (Nat.le_of_ble_eq_true rfl) dL_law_969 ⟨by show cells ≤ kc; omega, by show slots ≤ ks; omega⟩ (fun H locs V => W.eq (g2 := F0 m 972 ls [.int r408, .int r403]) rfl ?_)
        refine lv_icmp_eq (pc := 972) (tgt := 1320) hx hb dL_law_972 (by decide) (fun c412 => ?_) (fun c412 => ?_)
        · replace hf := if_t hf c412
          replace hf := nm_s hf; obtain ⟨u413, hu413, hf⟩ := hf
          refine lv_iinc (pc := 1320) (v := u413) (lv' := [(3, .int u413), (0, .ref sb), (1, .ref x1), (2, .ref x2)]) hx hb dL_law_1320 hl (k := 3) rfl (by rw [hu413]; rfl) (by decide) rfl (fun ls hl => ?_)
          refine lv_goto (pc := 1323) (tgt := 18) hx hb dL_law_1323 (by decide) ?_
          exact ih hf V (lv_sub hl [1, 2, 3, 0] rfl) ⟨by omega, by omega⟩
        · replace hf := if_f hf c412
          refine lv_iconst (pc := 975) (v := (ii 0)) hx hb dL_law_975 (by decide) ?_
          cases hf
          exact x_zretW (pc := 976) X V hr (by omega) (by omega) (by decide) dL_law_976
      replace hf := if_f hf c401
      by_cases c414 : ((xs (x3).toNatClampNeg) &&& (ii 63)) = (ii 29)
      · replace hf := if_t hf c414
        refine x_tswIn (pc := 33) (tgt := 977) (off := 944) hx hb c414 dL_law_33 (by decide) (by decide) (by decide) (by decide) ?_
        refine lv_aload_n (pc := 977) hx hb dL_law_977 rfl (lv_at hl 1 rfl) ?_
        refine lv_aload_n (pc := 978) hx hb dL_law_978 rfl (lv_at hl 0 rfl) ?_
        refine lv_iload_n (pc := 979) hx hb dL_law_979 rfl (lv_at hl 3 rfl) ?_
        refine lv_iconst (pc := 980) (v := (ii 1)) hx hb dL_law_980 (by decide) ?_
        refine lv_iadd (pc := 981) hx hb dL_law_981 ?_
        replace hf := chk_s hf; obtain ⟨hq415, hf⟩ := hf
        refine x_sld (pc := 982) X V hXs hq415 dL_law_982 ?_
        replace hf := tg_s hf; obtain ⟨ht418, hf⟩ := hf
        replace hf := bs hf; obtain ⟨r416, hk_417, hf⟩ := hf
        refine x_callV0 (pc := 983) (As := [.int (xs ((x3 + (ii 1))).toNatClampNeg)]) (rest := []) X V (mX0_named l D dA s0 hk_417) okX0 ht418 q1352 q1353 q1354 q119 q1355 ⟨rfl, hsX0_named⟩ ⟨Nat.le_of_ble_eq_true rfl, Nat.le_of_ble_eq_true rfl⟩ rfl hl.1 rfl (Nat.le_of_ble_eq_true rfl) dL_law_983 ⟨by show cells ≤ kc; omega, by show slots ≤ ks; omega⟩ (fun H locs V => W.eq (g2 := F0 m 986 ls [.int r416]) rfl ?_)
        refine lv_aload_n (pc := 986) hx hb dL_law_986 rfl (lv_at hl 2 rfl) ?_
        refine lv_aload_n (pc := 987) hx hb dL_law_987 rfl (lv_at hl 0 rfl) ?_
        refine lv_iload_n (pc := 988) hx hb dL_law_988 rfl (lv_at hl 3 rfl) ?_
        refine lv_iconst (pc := 989) (v := (ii 1)) hx hb dL_law_989 (by decide) ?_
        refine lv_iadd (pc := 990) hx hb dL_law_990 ?_
        replace hf := chk_s hf; obtain ⟨hq419, hf⟩ := hf
        refine x_sld (pc := 991) X V hXs hq419 dL_law_991 ?_
        replace hf := tg_s hf; obtain ⟨ht423, hf⟩ := hf
        replace hf := b2s hf; obtain ⟨r420, I421, hk_422, hf⟩ := hf
        refine x_callV0 (pc := 992) (As := [.int (xs ((x3 + (ii 1))).toNatClampNeg)]) (rest := [.int r416]) X V (mX5_named l D dA s0 hk_422) okX5 ht423 q2096 q2097 q2098 q129 q2099 ⟨rfl, hsX5_named⟩ ⟨Nat.le_of_ble_eq_true rfl, Nat.le_of_ble_eq_true rfl⟩ rfl hl.1 rfl (Nat.le_of_ble_eq_true rfl) dL_law_992 ⟨by show cells ≤ kc; omega, by show slots ≤ ks; omega⟩ (fun H locs V => W.eq (g2 := F0 m 995 ls [.int r420, .int r416]) rfl ?_)
        refine lv_icmp_eq (pc := 995) (tgt := 1320) hx hb dL_law_995 (by decide) (fun c424 => ?_) (fun c424 => ?_)
        · replace hf := if_t hf c424
          replace hf := nm_s hf; obtain ⟨u425, hu425, hf⟩ := hf
          refine lv_iinc (pc := 1320) (v := u425) (lv' := [(3, .int u425), (0, .ref sb), (1, .ref x1), (2, .ref x2)]) hx hb dL_law_1320 hl (k := 3) rfl (by rw [hu425]; rfl) (by decide) rfl (fun ls hl => ?_)
          refine lv_goto (pc := 1323) (tgt := 18) hx hb dL_law_1323 (by decide) ?_
          exact ih hf V (lv_sub hl [1, 2, 3, 0] rfl) ⟨by omega, by omega⟩
        · replace hf := if_f hf c424
          refine lv_iconst (pc := 998) (v := (ii 0)) hx hb dL_law_998 (by decide) ?_
          cases hf
          exact x_zretW (pc := 999) X V hr (by omega) (by omega) (by decide) dL_law_999
      replace hf := if_f hf c414
      by_cases c426 : ((xs (x3).toNatClampNeg) &&& (ii 63)) = (ii 30)
      · replace hf := if_t hf c426
        refine x_tswIn (pc := 33) (tgt := 1000) (off := 967) hx hb c426 dL_law_33 (by decide) (by decide) (by decide) (by decide) ?_
        refine lv_aload_n (pc := 1000) hx hb dL_law_1000 rfl (lv_at hl 1 rfl) ?_
        refine lv_aload_n (pc := 1001) hx hb dL_law_1001 rfl (lv_at hl 0 rfl) ?_
        refine lv_iload_n (pc := 1002) hx hb dL_law_1002 rfl (lv_at hl 3 rfl) ?_
        refine lv_iconst (pc := 1003) (v := (ii 1)) hx hb dL_law_1003 (by decide) ?_
        refine lv_iadd (pc := 1004) hx hb dL_law_1004 ?_
        replace hf := chk_s hf; obtain ⟨hq427, hf⟩ := hf
        refine x_sld (pc := 1005) X V hXs hq427 dL_law_1005 ?_
        refine lv_aload_n (pc := 1006) hx hb dL_law_1006 rfl (lv_at hl 0 rfl) ?_
        refine lv_iload_n (pc := 1007) hx hb dL_law_1007 rfl (lv_at hl 3 rfl) ?_
        refine lv_iconst (pc := 1008) (v := (ii 2)) hx hb dL_law_1008 (by decide) ?_
        refine lv_iadd (pc := 1009) hx hb dL_law_1009 ?_
        replace hf := chk_s hf; obtain ⟨hq428, hf⟩ := hf
        refine x_sld (pc := 1010) X V hXs hq428 dL_law_1010 ?_
        refine lv_aload_n (pc := 1011) hx hb dL_law_1011 rfl (lv_at hl 0 rfl) ?_
        refine lv_iload_n (pc := 1012) hx hb dL_law_1012 rfl (lv_at hl 3 rfl) ?_
        refine lv_iconst (pc := 1013) (v := (ii 3)) hx hb dL_law_1013 (by decide) ?_
        refine lv_iadd (pc := 1014) hx hb dL_law_1014 ?_
        replace hf := chk_s hf; obtain ⟨hq429, hf⟩ := hf
        refine x_sld (pc := 1015) X V hXs hq429 dL_law_1015 ?_
        replace hf := tg_s hf; obtain ⟨ht433, hf⟩ := hf
        replace hf := b2s hf; obtain ⟨r430, I431, hk_432, hf⟩ := hf
        refine x_callV0 (pc := 1016) (As := [.int (xs ((x3 + (ii 1))).toNatClampNeg), .int (xs ((x3 + (ii 2))).toNatClampNeg), .int (xs ((x3 + (ii 3))).toNatClampNeg)]) (rest := []) X V (mX0_letter l D dA s0 hk_432) okX0 ht433 q1356 q1357 q1358 q119 q1359 ⟨rfl, hsX0_letter⟩ ⟨Nat.le_of_ble_eq_true rfl, Nat.le_of_ble_eq_true rfl⟩ rfl hl.1 rfl (Nat.le_of_ble_eq_true rfl) dL_law_1016 ⟨by show cells ≤ kc; omega, by show slots ≤ ks; omega⟩ (fun H locs V => W.eq (g2 := F0 m 1019 ls [.int r430]) rfl ?_)
        refine lv_aload_n (pc := 1019) hx hb dL_law_1019 rfl (lv_at hl 2 rfl) ?_
        refine lv_aload_n (pc := 1020) hx hb dL_law_1020 rfl (lv_at hl 0 rfl) ?_
        refine lv_iload_n (pc := 1021) hx hb dL_law_1021 rfl (lv_at hl 3 rfl) ?_
        refine lv_iconst (pc := 1022) (v := (ii 1)) hx hb dL_law_1022 (by decide) ?_
        refine lv_iadd (pc := 1023) hx hb dL_law_1023 ?_
        replace hf := chk_s hf; obtain ⟨hq434, hf⟩ := hf
        refine x_sld (pc := 1024) X V hXs hq434 dL_law_1024 ?_
        refine lv_aload_n (pc := 1025) hx hb dL_law_1025 rfl (lv_at hl 0 rfl) ?_
        refine lv_iload_n (pc := 1026) hx hb dL_law_1026 rfl (lv_at hl 3 rfl) ?_
        refine lv_iconst (pc := 1027) (v := (ii 2)) hx hb dL_law_1027 (by decide) ?_
        refine lv_iadd (pc := 1028) hx hb dL_law_1028 ?_
        replace hf := chk_s hf; obtain ⟨hq435, hf⟩ := hf
        refine x_sld (pc := 1029) X V hXs hq435 dL_law_1029 ?_
        refine lv_aload_n (pc := 1030) hx hb dL_law_1030 rfl (lv_at hl 0 rfl) ?_
        refine lv_iload_n (pc := 1031) hx hb dL_law_1031 rfl (lv_at hl 3 rfl) ?_
        refine lv_iconst (pc := 1032) (v := (ii 3)) hx hb dL_law_1032 (by decide) ?_
        refine lv_iadd (pc := 1033) hx hb dL_law_1033 ?_
        replace hf := chk_s hf; obtain ⟨hq436, hf⟩ := hf
        refine x_sld (pc := 1034) X V hXs hq436 dL_law_1034 ?_
        replace hf := tg_s hf; obtain ⟨ht440, hf⟩ := hf
        replace hf := b2s hf; obtain ⟨r437, I438, hk_439, hf⟩ := hf
        refine x_callV0 (pc := 1035) (As := [.int (xs ((x3 + (ii 1))).toNatClampNeg), .int (xs ((x3 + (ii 2))).toNatClampNeg), .int (xs ((x3 + (ii 3))).toNatClampNeg)]) (rest := [.int r430]) X V (mX5_letter l D dA s0 hk_439) okX5 ht440 q2100 q2101 q2102 q129 q2103 ⟨rfl, hsX5_letter⟩ ⟨Nat.le_of_ble_eq_true rfl, Nat.le_of_ble_eq_true rfl⟩ rfl hl.1 rfl (Nat.le_of_ble_eq_true rfl) dL_law_1035 ⟨by show cells ≤ kc; omega, by show slots ≤ ks; omega⟩ (fun H locs V => W.eq (g2 := F0 m 1038 ls [.int r437, .int r430]) rfl ?_)
        refine lv_icmp_eq (pc := 1038) (tgt := 1320) hx hb dL_law_1038 (by decide) (fun c441 => ?_) (fun c441 => ?_)
        · replace hf := if_t hf c441
          replace hf := nm_s hf; obtain ⟨u442, hu442, hf⟩ := hf
          refine lv_iinc (pc := 1320) (v := u442) (lv' := [(3, .int u442), (0, .ref sb), (1, .ref x1), (2, .ref x2)]) hx hb dL_law_1320 hl (k := 3) rfl (by rw [hu442]; rfl) (by decide) rfl (fun ls hl => ?_)
          refine lv_goto (pc := 1323) (tgt := 18) hx hb dL_law_1323 (by decide) ?_
          exact ih hf V (lv_sub hl [1, 2, 3, 0] rfl) ⟨by omega, by omega⟩
        · replace hf := if_f hf c441
          refine lv_iconst (pc := 1041) (v := (ii 0)) hx hb dL_law_1041 (by decide) ?_
          cases hf
          exact x_zretW (pc := 1042) X V hr (by omega) (by omega) (by decide) dL_law_1042
      replace hf := if_f hf c426
      by_cases c443 : ((xs (x3).toNatClampNeg) &&& (ii 63)) = (ii 31)
      · replace hf := if_t hf c443
        refine x_tswIn (pc := 33) (tgt := 1043) (off := 1010) hx hb c443 dL_law_33 (by decide) (by decide) (by decide) (by decide) ?_
        refine lv_aload_n (pc := 1043) hx hb dL_law_1043 rfl (lv_at hl 1 rfl) ?_
        refine lv_aload_n (pc := 1044) hx hb dL_law_1044 rfl (lv_at hl 0 rfl) ?_
        refine lv_iload_n (pc := 1045) hx hb dL_law_1045 rfl (lv_at hl 3 rfl) ?_
        refine lv_iconst (pc := 1046) (v := (ii 1)) hx hb dL_law_1046 (by decide) ?_
        refine lv_iadd (pc := 1047) hx hb dL_law_1047 ?_
        replace hf := chk_s hf; obtain ⟨hq444, hf⟩ := hf
        refine x_sld (pc := 1048) X V hXs hq444 dL_law_1048 ?_
        replace hf := tg_s hf; obtain ⟨ht448, hf⟩ := hf
        replace hf := b2s hf; obtain ⟨r445, I446, hk_447, hf⟩ := hf
        refine x_callV0 (pc := 1049) (As := [.int (xs ((x3 + (ii 1))).toNatClampNeg)]) (rest := []) X V (mX0_apart l D dA s0 hk_447) okX0 ht448 q1372 q1373 q1374 q119 q1375 ⟨rfl, hsX0_apart⟩ ⟨Nat.le_of_ble_eq_true rfl, Nat.le_of_ble_eq_true rfl⟩ rfl hl.1 rfl (Nat.le_of_ble_eq_true rfl) dL_law_1049 ⟨by show cells ≤ kc; omega, by show slots ≤ ks; omega⟩ (fun H locs V => W.eq (g2 := F0 m 1052 ls [.int r445]) rfl ?_)
        refine lv_aload_n (pc := 1052) hx hb dL_law_1052 rfl (lv_at hl 2 rfl) ?_
        refine lv_aload_n (pc := 1053) hx hb dL_law_1053 rfl (lv_at hl 0 rfl) ?_
        refine lv_iload_n (pc := 1054) hx hb dL_law_1054 rfl (lv_at hl 3 rfl) ?_
        refine lv_iconst (pc := 1055) (v := (ii 1)) hx hb dL_law_1055 (by decide) ?_
        refine lv_iadd (pc := 1056) hx hb dL_law_1056 ?_
        replace hf := chk_s hf; obtain ⟨hq449, hf⟩ := hf
        refine x_sld (pc := 1057) X V hXs hq449 dL_law_1057 ?_
        replace hf := tg_s hf; obtain ⟨ht453, hf⟩ := hf
        replace hf := b2s hf; obtain ⟨r450, I451, hk_452, hf⟩ := hf
        refine x_callV0 (pc := 1058) (As := [.int (xs ((x3 + (ii 1))).toNatClampNeg)]) (rest := [.int r445]) X V (mX5_apart l D dA s0 hk_452) okX5 ht453 q2112 q2113 q2114 q129 q2115 ⟨rfl, hsX5_apart⟩ ⟨Nat.le_of_ble_eq_true rfl, Nat.le_of_ble_eq_true rfl⟩ rfl hl.1 rfl (Nat.le_of_ble_eq_true rfl) dL_law_1058 ⟨by show cells ≤ kc; omega, by show slots ≤ ks; omega⟩ (fun H locs V => W.eq (g2 := F0 m 1061 ls [.int r450, .int r445]) rfl ?_)
        refine lv_icmp_eq (pc := 1061) (tgt := 1320) hx hb dL_law_1061 (by decide) (fun c454 => ?_) (fun c454 => ?_)
        · replace hf := if_t hf c454
          replace hf := nm_s hf; obtain ⟨u455, hu455, hf⟩ := hf
          refine lv_iinc (pc := 1320) (v := u455) (lv' := [(3, .int u455), (0, .ref sb), (1, .ref x1), (2, .ref x2)]) hx hb dL_law_1320 hl (k := 3) rfl (by rw [hu455]; rfl) (by decide) rfl (fun ls hl => ?_)
          refine lv_goto (pc := 1323) (tgt := 18) hx hb dL_law_1323 (by decide) ?_
          exact ih hf V (lv_sub hl [1, 2, 3, 0] rfl) ⟨by omega, by omega⟩
        · replace hf := if_f hf c454
          refine lv_iconst (pc := 1064) (v := (ii 0)) hx hb dL_law_1064 (by decide) ?_
          cases hf
          exact x_zretW (pc := 1065) X V hr (by omega) (by omega) (by decide) dL_law_1065
      replace hf := if_f hf c443
      by_cases c456 : ((xs (x3).toNatClampNeg) &&& (ii 63)) = (ii 32)
      · replace hf := if_t hf c456
        refine x_tswIn (pc := 33) (tgt := 1066) (off := 1033) hx hb c456 dL_law_33 (by decide) (by decide) (by decide) (by decide) ?_
        refine lv_aload_n (pc := 1066) hx hb dL_law_1066 rfl (lv_at hl 1 rfl) ?_
        replace hf := tg_s hf; obtain ⟨ht459, hf⟩ := hf
        replace hf := bs hf; obtain ⟨r457, hk_458, hf⟩ := hf
        refine x_callV0 (pc := 1067) (As := []) (rest := []) X V (mX0_alike l D dA s0 hk_458) okX0 ht459 q1384 q1385 q1386 q119 q1387 ⟨rfl, hsX0_alike⟩ ⟨Nat.le_of_ble_eq_true rfl, Nat.le_of_ble_eq_true rfl⟩ rfl hl.1 rfl (Nat.le_of_ble_eq_true rfl) dL_law_1067 ⟨by show cells ≤ kc; omega, by show slots ≤ ks; omega⟩ (fun H locs V => W.eq (g2 := F0 m 1070 ls [.int r457]) rfl ?_)
        refine lv_aload_n (pc := 1070) hx hb dL_law_1070 rfl (lv_at hl 2 rfl) ?_
        replace hf := tg_s hf; obtain ⟨ht463, hf⟩ := hf
        replace hf := b2s hf; obtain ⟨r460, I461, hk_462, hf⟩ := hf
        refine x_callV0 (pc := 1071) (As := []) (rest := [.int r457]) X V (mX5_alike l D dA s0 hk_462) okX5 ht463 q2132 q2133 q2134 q129 q2135 ⟨rfl, hsX5_alike⟩ ⟨Nat.le_of_ble_eq_true rfl, Nat.le_of_ble_eq_true rfl⟩ rfl hl.1 rfl (Nat.le_of_ble_eq_true rfl) dL_law_1071 ⟨by show cells ≤ kc; omega, by show slots ≤ ks; omega⟩ (fun H locs V => W.eq (g2 := F0 m 1074 ls [.int r460, .int r457]) rfl ?_)
        refine lv_icmp_eq (pc := 1074) (tgt := 1320) hx hb dL_law_1074 (by decide) (fun c464 => ?_) (fun c464 => ?_)
        · replace hf := if_t hf c464
          replace hf := nm_s hf; obtain ⟨u465, hu465, hf⟩ := hf
          refine lv_iinc (pc := 1320) (v := u465) (lv' := [(3, .int u465), (0, .ref sb), (1, .ref x1), (2, .ref x2)]) hx hb dL_law_1320 hl (k := 3) rfl (by rw [hu465]; rfl) (by decide) rfl (fun ls hl => ?_)
          refine lv_goto (pc := 1323) (tgt := 18) hx hb dL_law_1323 (by decide) ?_
          exact ih hf V (lv_sub hl [1, 2, 3, 0] rfl) ⟨by omega, by omega⟩
        · replace hf := if_f hf c464
          refine lv_iconst (pc := 1077) (v := (ii 0)) hx hb dL_law_1077 (by decide) ?_
          cases hf
          exact x_zretW (pc := 1078) X V hr (by omega) (by omega) (by decide) dL_law_1078
      replace hf := if_f hf c456
      by_cases c466 : ((xs (x3).toNatClampNeg) &&& (ii 63)) = (ii 33)
      · replace hf := if_t hf c466
        refine x_tswIn (pc := 33) (tgt := 1079) (off := 1046) hx hb c466 dL_law_33 (by decide) (by decide) (by decide) (by decide) ?_
        refine lv_aload_n (pc := 1079) hx hb dL_law_1079 rfl (lv_at hl 1 rfl) ?_
        replace hf := tg_s hf; obtain ⟨ht470, hf⟩ := hf
        replace hf := b2s hf; obtain ⟨r467, I468, hk_469, hf⟩ := hf
        refine x_callV0 (pc := 1080) (As := []) (rest := []) X V (mX0_round l D dA s0 hk_469) okX0 ht470 q1388 q1389 q1390 q119 q1391 ⟨rfl, hsX0_round⟩ ⟨Nat.le_of_ble_eq_true rfl, Nat.le_of_ble_eq_true rfl⟩ rfl hl.1 rfl (Nat.le_of_ble_eq_true rfl) dL_law_1080 ⟨by show cells ≤ kc; omega, by show slots ≤ ks; omega⟩ (fun H locs V => W.eq (g2 := F0 m 1083 ls [.int r467]) rfl ?_)
        refine lv_aload_n (pc := 1083) hx hb dL_law_1083 rfl (lv_at hl 2 rfl) ?_
        replace hf := tg_s hf; obtain ⟨ht474, hf⟩ := hf
        replace hf := b2s hf; obtain ⟨r471, I472, hk_473, hf⟩ := hf
        refine x_callV0 (pc := 1084) (As := []) (rest := [.int r467]) X V (mX5_round l D dA s0 hk_473) okX5 ht474 q2136 q2137 q2138 q129 q2139 ⟨rfl, hsX5_round⟩ ⟨Nat.le_of_ble_eq_true rfl, Nat.le_of_ble_eq_true rfl⟩ rfl hl.1 rfl (Nat.le_of_ble_eq_true rfl) dL_law_1084 ⟨by show cells ≤ kc; omega, by show slots ≤ ks; omega⟩ (fun H locs V => W.eq (g2 := F0 m 1087 ls [.int r471, .int r467]) rfl ?_)
        refine lv_icmp_eq (pc := 1087) (tgt := 1320) hx hb dL_law_1087 (by decide) (fun c475 => ?_) (fun c475 => ?_)
        · replace hf := if_t hf c475
          replace hf := nm_s hf; obtain ⟨u476, hu476, hf⟩ := hf
          refine lv_iinc (pc := 1320) (v := u476) (lv' := [(3, .int u476), (0, .ref sb), (1, .ref x1), (2, .ref x2)]) hx hb dL_law_1320 hl (k := 3) rfl (by rw [hu476]; rfl) (by decide) rfl (fun ls hl => ?_)
          refine lv_goto (pc := 1323) (tgt := 18) hx hb dL_law_1323 (by decide) ?_
          exact ih hf V (lv_sub hl [1, 2, 3, 0] rfl) ⟨by omega, by omega⟩
        · replace hf := if_f hf c475
          refine lv_iconst (pc := 1090) (v := (ii 0)) hx hb dL_law_1090 (by decide) ?_
          cases hf
          exact x_zretW (pc := 1091) X V hr (by omega) (by omega) (by decide) dL_law_1091
      replace hf := if_f hf c466
      by_cases c477 : ((xs (x3).toNatClampNeg) &&& (ii 63)) = (ii 34)
      · replace hf := if_t hf c477
        refine x_tswIn (pc := 33) (tgt := 1092) (off := 1059) hx hb c477 dL_law_33 (by decide) (by decide) (by decide) (by decide) ?_
        refine lv_aload_n (pc := 1092) hx hb dL_law_1092 rfl (lv_at hl 1 rfl) ?_
        replace hf := tg_s hf; obtain ⟨ht480, hf⟩ := hf
        replace hf := bs hf; obtain ⟨r478, hk_479, hf⟩ := hf
        refine x_callV0 (pc := 1093) (As := []) (rest := []) X V (mX0_dead l D dA s0 hk_479) okX0 ht480 q1404 q1405 q1406 q119 q1407 ⟨rfl, hsX0_dead⟩ ⟨Nat.le_of_ble_eq_true rfl, Nat.le_of_ble_eq_true rfl⟩ rfl hl.1 rfl (Nat.le_of_ble_eq_true rfl) dL_law_1093 ⟨by show cells ≤ kc; omega, by show slots ≤ ks; omega⟩ (fun H locs V => W.eq (g2 := F0 m 1096 ls [.int r478]) rfl ?_)
        refine lv_aload_n (pc := 1096) hx hb dL_law_1096 rfl (lv_at hl 2 rfl) ?_
        replace hf := tg_s hf; obtain ⟨ht484, hf⟩ := hf
        replace hf := b2s hf; obtain ⟨r481, I482, hk_483, hf⟩ := hf
        refine x_callV0 (pc := 1097) (As := []) (rest := [.int r478]) X V (mX5_dead l D dA s0 hk_483) okX5 ht484 q2144 q2145 q2146 q129 q2147 ⟨rfl, hsX5_dead⟩ ⟨Nat.le_of_ble_eq_true rfl, Nat.le_of_ble_eq_true rfl⟩ rfl hl.1 rfl (Nat.le_of_ble_eq_true rfl) dL_law_1097 ⟨by show cells ≤ kc; omega, by show slots ≤ ks; omega⟩ (fun H locs V => W.eq (g2 := F0 m 1100 ls [.int r481, .int r478]) rfl ?_)
        refine lv_icmp_eq (pc := 1100) (tgt := 1320) hx hb dL_law_1100 (by decide) (fun c485 => ?_) (fun c485 => ?_)
        · replace hf := if_t hf c485
          replace hf := nm_s hf; obtain ⟨u486, hu486, hf⟩ := hf
          refine lv_iinc (pc := 1320) (v := u486) (lv' := [(3, .int u486), (0, .ref sb), (1, .ref x1), (2, .ref x2)]) hx hb dL_law_1320 hl (k := 3) rfl (by rw [hu486]; rfl) (by decide) rfl (fun ls hl => ?_)
          refine lv_goto (pc := 1323) (tgt := 18) hx hb dL_law_1323 (by decide) ?_
          exact ih hf V (lv_sub hl [1, 2, 3, 0] rfl) ⟨by omega, by omega⟩
        · replace hf := if_f hf c485
          refine lv_iconst (pc := 1103) (v := (ii 0)) hx hb dL_law_1103 (by decide) ?_
          cases hf
          exact x_zretW (pc := 1104) X V hr (by omega) (by omega) (by decide) dL_law_1104
      replace hf := if_f hf c477
      by_cases c487 : ((xs (x3).toNatClampNeg) &&& (ii 63)) = (ii 35)
      · replace hf := if_t hf c487
        refine x_tswIn (pc := 33) (tgt := 1105) (off := 1072) hx hb c487 dL_law_33 (by decide) (by decide) (by decide) (by decide) ?_
        refine lv_aload_n (pc := 1105) hx hb dL_law_1105 rfl (lv_at hl 1 rfl) ?_
        refine lv_aload_n (pc := 1106) hx hb dL_law_1106 rfl (lv_at hl 0 rfl) ?_
        refine lv_iload_n (pc := 1107) hx hb dL_law_1107 rfl (lv_at hl 3 rfl) ?_
        refine lv_iconst (pc := 1108) (v := (ii 1)) hx hb dL_law_1108 (by decide) ?_
        refine lv_iadd (pc := 1109) hx hb dL_law_1109 ?_
        replace hf := chk_s hf; obtain ⟨hq488, hf⟩ := hf
        refine x_sld (pc := 1110) X V hXs hq488 dL_law_1110 ?_
        refine lv_aload_n (pc := 1111) hx hb dL_law_1111 rfl (lv_at hl 0 rfl) ?_
        refine lv_iload_n (pc := 1112) hx hb dL_law_1112 rfl (lv_at hl 3 rfl) ?_
        refine lv_iconst (pc := 1113) (v := (ii 2)) hx hb dL_law_1113 (by decide) ?_
        refine lv_iadd (pc := 1114) hx hb dL_law_1114 ?_
        replace hf := chk_s hf; obtain ⟨hq489, hf⟩ := hf
        refine x_sld (pc := 1115) X V hXs hq489 dL_law_1115 ?_
        replace hf := tg_s hf; obtain ⟨ht493, hf⟩ := hf
        replace hf := b2s hf; obtain ⟨r490, L491, hk_492, hf⟩ := hf
        refine x_callV0 (pc := 1116) (As := [.int (xs ((x3 + (ii 1))).toNatClampNeg), .int (xs ((x3 + (ii 2))).toNatClampNeg)]) (rest := []) X V (mX0_few l D dA s0 hk_492) okX0 ht493 q1408 q1409 q1410 q119 q1411 ⟨rfl, hsX0_few⟩ ⟨Nat.le_of_ble_eq_true rfl, Nat.le_of_ble_eq_true rfl⟩ rfl hl.1 rfl (Nat.le_of_ble_eq_true rfl) dL_law_1116 ⟨by show cells ≤ kc; omega, by show slots ≤ ks; omega⟩ (fun H locs V => W.eq (g2 := F0 m 1119 ls [.long r490]) rfl ?_)
        refine lv_aload_n (pc := 1119) hx hb dL_law_1119 rfl (lv_at hl 2 rfl) ?_
        refine lv_aload_n (pc := 1120) hx hb dL_law_1120 rfl (lv_at hl 0 rfl) ?_
        refine lv_iload_n (pc := 1121) hx hb dL_law_1121 rfl (lv_at hl 3 rfl) ?_
        refine lv_iconst (pc := 1122) (v := (ii 1)) hx hb dL_law_1122 (by decide) ?_
        refine lv_iadd (pc := 1123) hx hb dL_law_1123 ?_
        replace hf := chk_s hf; obtain ⟨hq494, hf⟩ := hf
        refine x_sld (pc := 1124) X V hXs hq494 dL_law_1124 ?_
        refine lv_aload_n (pc := 1125) hx hb dL_law_1125 rfl (lv_at hl 0 rfl) ?_
        refine lv_iload_n (pc := 1126) hx hb dL_law_1126 rfl (lv_at hl 3 rfl) ?_
        refine lv_iconst (pc := 1127) (v := (ii 2)) hx hb dL_law_1127 (by decide) ?_
        refine lv_iadd (pc := 1128) hx hb dL_law_1128 ?_
        replace hf := chk_s hf; obtain ⟨hq495, hf⟩ := hf
        refine x_sld (pc := 1129) X V hXs hq495 dL_law_1129 ?_
        replace hf := tg_s hf; obtain ⟨ht500, hf⟩ := hf
        replace hf := b3s hf; obtain ⟨r496, I497, L498, hk_499, hf⟩ := hf
        refine x_callV0 (pc := 1130) (As := [.int (xs ((x3 + (ii 1))).toNatClampNeg), .int (xs ((x3 + (ii 2))).toNatClampNeg)]) (rest := [.long r490]) X V (mX5_few l D dA s0 hk_499) okX5 ht500 q2148 q2149 q2150 q129 q2151 ⟨rfl, hsX5_few⟩ ⟨Nat.le_of_ble_eq_true rfl, Nat.le_of_ble_eq_true rfl⟩ rfl hl.1 rfl (Nat.le_of_ble_eq_true rfl) dL_law_1130 ⟨by show cells ≤ kc; omega, by show slots ≤ ks; omega⟩ (fun H locs V => W.eq (g2 := F0 m 1133 ls [.long r496, .long r490]) rfl ?_)
        refine lc_eq (pc := 1133) (tgt := 1320) hx hb dL_law_1133 dL_law_1134 (by decide) (fun c501 => ?_) (fun c501 => ?_)
        · replace hf := if_t hf c501
          replace hf := nm_s hf; obtain ⟨u502, hu502, hf⟩ := hf
          refine lv_iinc (pc := 1320) (v := u502) (lv' := [(3, .int u502), (0, .ref sb), (1, .ref x1), (2, .ref x2)]) hx hb dL_law_1320 hl (k := 3) rfl (by rw [hu502]; rfl) (by decide) rfl (fun ls hl => ?_)
          refine lv_goto (pc := 1323) (tgt := 18) hx hb dL_law_1323 (by decide) ?_
          exact ih hf V (lv_sub hl [1, 2, 3, 0] rfl) ⟨by omega, by omega⟩
        · replace hf := if_f hf c501
          refine lv_iconst (pc := 1137) (v := (ii 0)) hx hb dL_law_1137 (by decide) ?_
          cases hf
          exact x_zretW (pc := 1138) X V hr (by omega) (by omega) (by decide) dL_law_1138
      replace hf := if_f hf c487
      by_cases c503 : ((xs (x3).toNatClampNeg) &&& (ii 63)) = (ii 36)
      · replace hf := if_t hf c503
        refine x_tswIn (pc := 33) (tgt := 1139) (off := 1106) hx hb c503 dL_law_33 (by decide) (by decide) (by decide) (by decide) ?_
        refine lv_aload_n (pc := 1139) hx hb dL_law_1139 rfl (lv_at hl 1 rfl) ?_
        refine lv_aload_n (pc := 1140) hx hb dL_law_1140 rfl (lv_at hl 0 rfl) ?_
        refine lv_iload_n (pc := 1141) hx hb dL_law_1141 rfl (lv_at hl 3 rfl) ?_
        refine lv_iconst (pc := 1142) (v := (ii 1)) hx hb dL_law_1142 (by decide) ?_
        refine lv_iadd (pc := 1143) hx hb dL_law_1143 ?_
        replace hf := chk_s hf; obtain ⟨hq504, hf⟩ := hf
        refine x_sld (pc := 1144) X V hXs hq504 dL_law_1144 ?_
        refine lv_aload_n (pc := 1145) hx hb dL_law_1145 rfl (lv_at hl 0 rfl) ?_
        refine lv_iload_n (pc := 1146) hx hb dL_law_1146 rfl (lv_at hl 3 rfl) ?_
        refine lv_iconst (pc := 1147) (v := (ii 2)) hx hb dL_law_1147 (by decide) ?_
        refine lv_iadd (pc := 1148) hx hb dL_law_1148 ?_
        replace hf := chk_s hf; obtain ⟨hq505, hf⟩ := hf
        refine x_sld (pc := 1149) X V hXs hq505 dL_law_1149 ?_
        replace hf := tg_s hf; obtain ⟨ht510, hf⟩ := hf
        replace hf := b3s hf; obtain ⟨r506, I507, L508, hk_509, hf⟩ := hf
        refine x_callV0 (pc := 1150) (As := [.int (xs ((x3 + (ii 1))).toNatClampNeg), .int (xs ((x3 + (ii 2))).toNatClampNeg)]) (rest := []) X V (mX0_compare l D dA s0 hk_509) okX0 ht510 q1414 q1415 q1416 q119 q1417 ⟨rfl, hsX0_compare⟩ ⟨Nat.le_of_ble_eq_true rfl, Nat.le_of_ble_eq_true rfl⟩ rfl hl.1 rfl (Nat.le_of_ble_eq_true rfl) dL_law_1150 ⟨by show cells ≤ kc; omega, by show slots ≤ ks; omega⟩ (fun H locs V => W.eq (g2 := F0 m 1153 ls [.int r506]) rfl ?_)
        refine lv_aload_n (pc := 1153) hx hb dL_law_1153 rfl (lv_at hl 2 rfl) ?_
        refine lv_aload_n (pc := 1154) hx hb dL_law_1154 rfl (lv_at hl 0 rfl) ?_
        refine lv_iload_n (pc := 1155) hx hb dL_law_1155 rfl (lv_at hl 3 rfl) ?_
        refine lv_iconst (pc := 1156) (v := (ii 1)) hx hb dL_law_1156 (by decide) ?_
        refine lv_iadd (pc := 1157) hx hb dL_law_1157 ?_
        replace hf := chk_s hf; obtain ⟨hq511, hf⟩ := hf
        refine x_sld (pc := 1158) X V hXs hq511 dL_law_1158 ?_
        refine lv_aload_n (pc := 1159) hx hb dL_law_1159 rfl (lv_at hl 0 rfl) ?_
        refine lv_iload_n (pc := 1160) hx hb dL_law_1160 rfl (lv_at hl 3 rfl) ?_
        refine lv_iconst (pc := 1161) (v := (ii 2)) hx hb dL_law_1161 (by decide) ?_
        refine lv_iadd (pc := 1162) hx hb dL_law_1162 ?_
        replace hf := chk_s hf; obtain ⟨hq512, hf⟩ := hf
        refine x_sld (pc := 1163) X V hXs hq512 dL_law_1163 ?_
        replace hf := tg_s hf; obtain ⟨ht517, hf⟩ := hf
        replace hf := b3s hf; obtain ⟨r513, I514, L515, hk_516, hf⟩ := hf
        refine x_callV0 (pc := 1164) (As := [.int (xs ((x3 + (ii 1))).toNatClampNeg), .int (xs ((x3 + (ii 2))).toNatClampNeg)]) (rest := [.int r506]) X V (mX5_compare l D dA s0 hk_516) okX5 ht517 q2154 q2155 q2156 q129 q2157 ⟨rfl, hsX5_compare⟩ ⟨Nat.le_of_ble_eq_true rfl, Nat.le_of_ble_eq_true rfl⟩ rfl hl.1 rfl (Nat.le_of_ble_eq_true rfl) dL_law_1164 ⟨by show cells ≤ kc; omega, by show slots ≤ ks; omega⟩ (fun H locs V => W.eq (g2 := F0 m 1167 ls [.int r513, .int r506]) rfl ?_)
        refine lv_icmp_eq (pc := 1167) (tgt := 1320) hx hb dL_law_1167 (by decide) (fun c518 => ?_) (fun c518 => ?_)
        · replace hf := if_t hf c518
          replace hf := nm_s hf; obtain ⟨u519, hu519, hf⟩ := hf
          refine lv_iinc (pc := 1320) (v := u519) (lv' := [(3, .int u519), (0, .ref sb), (1, .ref x1), (2, .ref x2)]) hx hb dL_law_1320 hl (k := 3) rfl (by rw [hu519]; rfl) (by decide) rfl (fun ls hl => ?_)
          refine lv_goto (pc := 1323) (tgt := 18) hx hb dL_law_1323 (by decide) ?_
          exact ih hf V (lv_sub hl [1, 2, 3, 0] rfl) ⟨by omega, by omega⟩
        · replace hf := if_f hf c518
          refine lv_iconst (pc := 1170) (v := (ii 0)) hx hb dL_law_1170 (by decide) ?_
          cases hf
          exact x_zretW (pc := 1171) X V hr (by omega) (by omega) (by decide) dL_law_1171
      replace hf := if_f hf c503
      by_cases c520 : ((xs (x3).toNatClampNeg) &&& (ii 63)) = (ii 37)
      · replace hf := if_t hf c520
        refine x_tswIn (pc := 33) (tgt := 1172) (off := 1139) hx hb c520 dL_law_33 (by decide) (by decide) (by decide) (by decide) ?_
        refine lv_aload_n (pc := 1172) hx hb dL_law_1172 rfl (lv_at hl 1 rfl) ?_
        refine lv_aload_n (pc := 1173) hx hb dL_law_1173 rfl (lv_at hl 0 rfl) ?_
        refine lv_iload_n (pc := 1174) hx hb dL_law_1174 rfl (lv_at hl 3 rfl) ?_
        refine lv_iconst (pc := 1175) (v := (ii 1)) hx hb dL_law_1175 (by decide) ?_
        refine lv_iadd (pc := 1176) hx hb dL_law_1176 ?_
        replace hf := chk_s hf; obtain ⟨hq521, hf⟩ := hf
        refine x_sld (pc := 1177) X V hXs hq521 dL_law_1177 ?_
        refine lv_aload_n (pc := 1178) hx hb dL_law_1178 rfl (lv_at hl 0 rfl) ?_
        refine lv_iload_n (pc := 1179) hx hb dL_law_1179 rfl (lv_at hl 3 rfl) ?_
        refine lv_iconst (pc := 1180) (v := (ii 2)) hx hb dL_law_1180 (by decide) ?_
        refine lv_iadd (pc := 1181) hx hb dL_law_1181 ?_
        replace hf := chk_s hf; obtain ⟨hq522, hf⟩ := hf
        refine x_sld (pc := 1182) X V hXs hq522 dL_law_1182 ?_
        replace hf := tg_s hf; obtain ⟨ht527, hf⟩ := hf
        replace hf := b3s hf; obtain ⟨r523, I524, L525, hk_526, hf⟩ := hf
        refine x_callV0 (pc := 1183) (As := [.int (xs ((x3 + (ii 1))).toNatClampNeg), .int (xs ((x3 + (ii 2))).toNatClampNeg)]) (rest := []) X V (mX0_decades l D dA s0 hk_526) okX0 ht527 q1470 q1471 q1472 q119 q1473 ⟨rfl, hsX0_decades⟩ ⟨Nat.le_of_ble_eq_true rfl, Nat.le_of_ble_eq_true rfl⟩ rfl hl.1 rfl (Nat.le_of_ble_eq_true rfl) dL_law_1183 ⟨by show cells ≤ kc; omega, by show slots ≤ ks; omega⟩ (fun H locs V => W.eq (g2 := F0 m 1186 ls [.int r523]) rfl ?_)
        refine lv_aload_n (pc := 1186) hx hb dL_law_1186 rfl (lv_at hl 2 rfl) ?_
        refine lv_aload_n (pc := 1187) hx hb dL_law_1187 rfl (lv_at hl 0 rfl) ?_
        refine lv_iload_n (pc := 1188) hx hb dL_law_1188 rfl (lv_at hl 3 rfl) ?_
        refine lv_iconst (pc := 1189) (v := (ii 1)) hx hb dL_law_1189 (by decide) ?_
        refine lv_iadd (pc := 1190) hx hb dL_law_1190 ?_
        replace hf := chk_s hf; obtain ⟨hq528, hf⟩ := hf
        refine x_sld (pc := 1191) X V hXs hq528 dL_law_1191 ?_
        refine lv_aload_n (pc := 1192) hx hb dL_law_1192 rfl (lv_at hl 0 rfl) ?_
        refine lv_iload_n (pc := 1193) hx hb dL_law_1193 rfl (lv_at hl 3 rfl) ?_
        refine lv_iconst (pc := 1194) (v := (ii 2)) hx hb dL_law_1194 (by decide) ?_
        refine lv_iadd (pc := 1195) hx hb dL_law_1195 ?_
        replace hf := chk_s hf; obtain ⟨hq529, hf⟩ := hf
        refine x_sld (pc := 1196) X V hXs hq529 dL_law_1196 ?_
        replace hf := tg_s hf; obtain ⟨ht534, hf⟩ := hf
        replace hf := b3s hf; obtain ⟨r530, I531, L532, hk_533, hf⟩ := hf
        refine x_callV0 (pc := 1197) (As := [.int (xs ((x3 + (ii 1))).toNatClampNeg), .int (xs ((x3 + (ii 2))).toNatClampNeg)]) (rest := [.int r523]) X V (mX5_decades l D dA s0 hk_533) okX5 ht534 q2196 q2197 q2198 q129 q2199 ⟨rfl, hsX5_decades⟩ ⟨Nat.le_of_ble_eq_true rfl, Nat.le_of_ble_eq_true rfl⟩ rfl hl.1 rfl (Nat.le_of_ble_eq_true rfl) dL_law_1197 ⟨by show cells ≤ kc; omega, by show slots ≤ ks; omega⟩ (fun H locs V => W.eq (g2 := F0 m 1200 ls [.int r530, .int r523]) rfl ?_)
        refine lv_icmp_eq (pc := 1200) (tgt := 1320) hx hb dL_law_1200 (by decide) (fun c535 => ?_) (fun c535 => ?_)
        · replace hf := if_t hf c535
          replace hf := nm_s hf; obtain ⟨u536, hu536, hf⟩ := hf
          refine lv_iinc (pc := 1320) (v := u536) (lv' := [(3, .int u536), (0, .ref sb), (1, .ref x1), (2, .ref x2)]) hx hb dL_law_1320 hl (k := 3) rfl (by rw [hu536]; rfl) (by decide) rfl (fun ls hl => ?_)
          refine lv_goto (pc := 1323) (tgt := 18) hx hb dL_law_1323 (by decide) ?_
          exact ih hf V (lv_sub hl [1, 2, 3, 0] rfl) ⟨by omega, by omega⟩
        · replace hf := if_f hf c535
          refine lv_iconst (pc := 1203) (v := (ii 0)) hx hb dL_law_1203 (by decide) ?_
          cases hf
          exact x_zretW (pc := 1204) X V hr (by omega) (by omega) (by decide) dL_law_1204
      replace hf := if_f hf c520
      by_cases c537 : ((xs (x3).toNatClampNeg) &&& (ii 63)) = (ii 38)
      · replace hf := if_t hf c537
        refine x_tswIn (pc := 33) (tgt := 1205) (off := 1172) hx hb c537 dL_law_33 (by decide) (by decide) (by decide) (by decide) ?_
        refine lv_aload_n (pc := 1205) hx hb dL_law_1205 rfl (lv_at hl 1 rfl) ?_
        refine lv_aload_n (pc := 1206) hx hb dL_law_1206 rfl (lv_at hl 0 rfl) ?_
        refine lv_iload_n (pc := 1207) hx hb dL_law_1207 rfl (lv_at hl 3 rfl) ?_
        refine lv_iconst (pc := 1208) (v := (ii 1)) hx hb dL_law_1208 (by decide) ?_
        refine lv_iadd (pc := 1209) hx hb dL_law_1209 ?_
        replace hf := chk_s hf; obtain ⟨hq538, hf⟩ := hf
        refine x_sld (pc := 1210) X V hXs hq538 dL_law_1210 ?_
        refine lv_aload_n (pc := 1211) hx hb dL_law_1211 rfl (lv_at hl 0 rfl) ?_
        refine lv_iload_n (pc := 1212) hx hb dL_law_1212 rfl (lv_at hl 3 rfl) ?_
        refine lv_iconst (pc := 1213) (v := (ii 2)) hx hb dL_law_1213 (by decide) ?_
        refine lv_iadd (pc := 1214) hx hb dL_law_1214 ?_
        replace hf := chk_s hf; obtain ⟨hq539, hf⟩ := hf
        refine x_sld (pc := 1215) X V hXs hq539 dL_law_1215 ?_
        replace hf := tg_s hf; obtain ⟨ht542, hf⟩ := hf
        replace hf := bs hf; obtain ⟨r540, hk_541, hf⟩ := hf
        refine x_callV0 (pc := 1216) (As := [.int (xs ((x3 + (ii 1))).toNatClampNeg), .int (xs ((x3 + (ii 2))).toNatClampNeg)]) (rest := []) X V (mX0_drawn l D dA s0 hk_541) okX0 ht542 q1481 q1482 q1483 q119 q1484 ⟨rfl, hsX0_drawn⟩ ⟨Nat.le_of_ble_eq_true rfl, Nat.le_of_ble_eq_true rfl⟩ rfl hl.1 rfl (Nat.le_of_ble_eq_true rfl) dL_law_1216 ⟨by show cells ≤ kc; omega, by show slots ≤ ks; omega⟩ (fun H locs V => W.eq (g2 := F0 m 1219 ls [.int r540]) rfl ?_)
        refine lv_aload_n (pc := 1219) hx hb dL_law_1219 rfl (lv_at hl 2 rfl) ?_
        refine lv_aload_n (pc := 1220) hx hb dL_law_1220 rfl (lv_at hl 0 rfl) ?_
        refine lv_iload_n (pc := 1221) hx hb dL_law_1221 rfl (lv_at hl 3 rfl) ?_
        refine lv_iconst (pc := 1222) (v := (ii 1)) hx hb dL_law_1222 (by decide) ?_
        refine lv_iadd (pc := 1223) hx hb dL_law_1223 ?_
        replace hf := chk_s hf; obtain ⟨hq543, hf⟩ := hf
        refine x_sld (pc := 1224) X V hXs hq543 dL_law_1224 ?_
        refine lv_aload_n (pc := 1225) hx hb dL_law_1225 rfl (lv_at hl 0 rfl) ?_
        refine lv_iload_n (pc := 1226) hx hb dL_law_1226 rfl (lv_at hl 3 rfl) ?_
        refine lv_iconst (pc := 1227) (v := (ii 2)) hx hb dL_law_1227 (by decide) ?_
        refine lv_iadd (pc := 1228) hx hb dL_law_1228 ?_
        replace hf := chk_s hf; obtain ⟨hq544, hf⟩ := hf
        refine x_sld (pc := 1229) X V hXs hq544 dL_law_1229 ?_
        replace hf := tg_s hf; obtain ⟨ht548, hf⟩ := hf
        replace hf := b2s hf; obtain ⟨r545, I546, hk_547, hf⟩ := hf
        refine x_callV0 (pc := 1230) (As := [.int (xs ((x3 + (ii 1))).toNatClampNeg), .int (xs ((x3 + (ii 2))).toNatClampNeg)]) (rest := [.int r540]) X V (mX5_drawn l D dA s0 hk_547) okX5 ht548 q2207 q2208 q2209 q129 q2210 ⟨rfl, hsX5_drawn⟩ ⟨Nat.le_of_ble_eq_true rfl, Nat.le_of_ble_eq_true rfl⟩ rfl hl.1 rfl (Nat.le_of_ble_eq_true rfl) dL_law_1230 ⟨by show cells ≤ kc; omega, by show slots ≤ ks; omega⟩ (fun H locs V => W.eq (g2 := F0 m 1233 ls [.int r545, .int r540]) rfl ?_)
        refine lv_icmp_eq (pc := 1233) (tgt := 1320) hx hb dL_law_1233 (by decide) (fun c549 => ?_) (fun c549 => ?_)
        · replace hf := if_t hf c549
          replace hf := nm_s hf; obtain ⟨u550, hu550, hf⟩ := hf
          refine lv_iinc (pc := 1320) (v := u550) (lv' := [(3, .int u550), (0, .ref sb), (1, .ref x1), (2, .ref x2)]) hx hb dL_law_1320 hl (k := 3) rfl (by rw [hu550]; rfl) (by decide) rfl (fun ls hl => ?_)
          refine lv_goto (pc := 1323) (tgt := 18) hx hb dL_law_1323 (by decide) ?_
          exact ih hf V (lv_sub hl [1, 2, 3, 0] rfl) ⟨by omega, by omega⟩
        · replace hf := if_f hf c549
          refine lv_iconst (pc := 1236) (v := (ii 0)) hx hb dL_law_1236 (by decide) ?_
          cases hf
          exact x_zretW (pc := 1237) X V hr (by omega) (by omega) (by decide) dL_law_1237
      replace hf := if_f hf c537
      by_cases c551 : ((xs (x3).toNatClampNeg) &&& (ii 63)) = (ii 39)
      · replace hf := if_t hf c551
        refine x_tswIn (pc := 33) (tgt := 1238) (off := 1205) hx hb c551 dL_law_33 (by decide) (by decide) (by decide) (by decide) ?_
        refine lv_aload_n (pc := 1238) hx hb dL_law_1238 rfl (lv_at hl 1 rfl) ?_
        refine lv_aload_n (pc := 1239) hx hb dL_law_1239 rfl (lv_at hl 0 rfl) ?_
        refine lv_iload_n (pc := 1240) hx hb dL_law_1240 rfl (lv_at hl 3 rfl) ?_
        refine lv_iconst (pc := 1241) (v := (ii 1)) hx hb dL_law_1241 (by decide) ?_
        refine lv_iadd (pc := 1242) hx hb dL_law_1242 ?_
        replace hf := chk_s hf; obtain ⟨hq552, hf⟩ := hf
        refine x_sld (pc := 1243) X V hXs hq552 dL_law_1243 ?_
        replace hf := tg_s hf; obtain ⟨ht561, hf⟩ := hf
        replace hf := b7s hf; obtain ⟨r553, T554, N555, Z556, S557, I558, R559, hk_560, hf⟩ := hf
        have hm_hk_560 := zX0_image hk_560
        have hm := zL_law_b1247 ihm hf
        refine x_callV (pc := 1244) (As := [.int (xs ((x3 + (ii 1))).toNatClampNeg)]) (rest := []) X V (mX0_image l D dA s0 (kc := Z556 - Z) (ks := S557 - S) (Nat.le_refl _) (Nat.le_refl _) hk_560) okX0 ht561 q445 q446 q447 q119 q448 ⟨rfl, hsX0_image⟩ ⟨Nat.le_of_ble_eq_true rfl, Nat.le_of_ble_eq_true rfl⟩ rfl hl.1 rfl (Nat.le_of_ble_eq_true rfl) dL_law_1244 ⟨by show _ ≤ kc; omega, by show _ ≤ ks; omega⟩ (fun H locs V => W.eq (g2 := F0 m 1247 ls [.int r553]) rfl ?_)
        exact wL_law_b1247 X hr hXs ih ihm hf V (lv_sub hl [0, 1, 2, 3] rfl) ⟨by omega, by omega⟩
      replace hf := if_f hf c551
      by_cases c562 : ((xs (x3).toNatClampNeg) &&& (ii 63)) = (ii 40)
      · replace hf := if_t hf c562
        refine x_tswIn (pc := 33) (tgt := 1261) (off := 1228) hx hb c562 dL_law_33 (by decide) (by decide) (by decide) (by decide) ?_
        refine lv_aload_n (pc := 1261) hx hb dL_law_1261 rfl (lv_at hl 1 rfl) ?_
        refine lv_aload_n (pc := 1262) hx hb dL_law_1262 rfl (lv_at hl 0 rfl) ?_
        refine lv_iload_n (pc := 1263) hx hb dL_law_1263 rfl (lv_at hl 3 rfl) ?_
        refine lv_iconst (pc := 1264) (v := (ii 1)) hx hb dL_law_1264 (by decide) ?_
        refine lv_iadd (pc := 1265) hx hb dL_law_1265 ?_
        replace hf := chk_s hf; obtain ⟨hq563, hf⟩ := hf
        refine x_sld (pc := 1266) X V hXs hq563 dL_law_1266 ?_
        replace hf := tg_s hf; obtain ⟨ht572, hf⟩ := hf
        replace hf := b7s hf; obtain ⟨r564, T565, N566, Z567, S568, I569, R570, hk_571, hf⟩ := hf
        have hm_hk_571 := zX0_back hk_571
        have hm := zL_law_b1270 ihm hf
        refine x_callV (pc := 1267) (As := [.int (xs ((x3 + (ii 1))).toNatClampNeg)]) (rest := []) X V (mX0_back l D dA s0 (kc := Z567 - Z) (ks := S568 - S) (Nat.le_refl _) (Nat.le_refl _) hk_571) okX0 ht572 q546 q547 q548 q119 q549 ⟨rfl, hsX0_back⟩ ⟨Nat.le_of_ble_eq_true rfl, Nat.le_of_ble_eq_true rfl⟩ rfl hl.1 rfl (Nat.le_of_ble_eq_true rfl) dL_law_1267 ⟨by show _ ≤ kc; omega, by show _ ≤ ks; omega⟩ (fun H locs V => W.eq (g2 := F0 m 1270 ls [.int r564]) rfl ?_)
        exact wL_law_b1270 X hr hXs ih ihm hf V (lv_sub hl [0, 1, 2, 3] rfl) ⟨by omega, by omega⟩
      replace hf := if_f hf c562
      by_cases c573 : ((xs (x3).toNatClampNeg) &&& (ii 63)) = (ii 41)
      · replace hf := if_t hf c573
        refine x_tswIn (pc := 33) (tgt := 1284) (off := 1251) hx hb c573 dL_law_33 (by decide) (by decide) (by decide) (by decide) ?_
        refine lv_aload_n (pc := 1284) hx hb dL_law_1284 rfl (lv_at hl 1 rfl) ?_
        refine lv_aload_n (pc := 1285) hx hb dL_law_1285 rfl (lv_at hl 0 rfl) ?_
        refine lv_iload_n (pc := 1286) hx hb dL_law_1286 rfl (lv_at hl 3 rfl) ?_
        refine lv_iconst (pc := 1287) (v := (ii 1)) hx hb dL_law_1287 (by decide) ?_
        refine lv_iadd (pc := 1288) hx hb dL_law_1288 ?_
        replace hf := chk_s hf; obtain ⟨hq574, hf⟩ := hf
        refine x_sld (pc := 1289) X V hXs hq574 dL_law_1289 ?_
        replace hf := tg_s hf; obtain ⟨ht577, hf⟩ := hf
        replace hf := bs hf; obtain ⟨r575, hk_576, hf⟩ := hf
        refine x_callV0 (pc := 1290) (As := [.int (xs ((x3 + (ii 1))).toNatClampNeg)]) (rest := []) X V (mX0_count l D dA s0 hk_576) okX0 ht577 q1485 q1486 q1487 q119 q1488 ⟨rfl, hsX0_count⟩ ⟨Nat.le_of_ble_eq_true rfl, Nat.le_of_ble_eq_true rfl⟩ rfl hl.1 rfl (Nat.le_of_ble_eq_true rfl) dL_law_1290 ⟨by show cells ≤ kc; omega, by show slots ≤ ks; omega⟩ (fun H locs V => W.eq (g2 := F0 m 1293 ls [.int r575]) rfl ?_)
        refine lv_aload_n (pc := 1293) hx hb dL_law_1293 rfl (lv_at hl 2 rfl) ?_
        refine lv_aload_n (pc := 1294) hx hb dL_law_1294 rfl (lv_at hl 0 rfl) ?_
        refine lv_iload_n (pc := 1295) hx hb dL_law_1295 rfl (lv_at hl 3 rfl) ?_
        refine lv_iconst (pc := 1296) (v := (ii 1)) hx hb dL_law_1296 (by decide) ?_
        refine lv_iadd (pc := 1297) hx hb dL_law_1297 ?_
        replace hf := chk_s hf; obtain ⟨hq578, hf⟩ := hf
        refine x_sld (pc := 1298) X V hXs hq578 dL_law_1298 ?_
        replace hf := tg_s hf; obtain ⟨ht582, hf⟩ := hf
        replace hf := b2s hf; obtain ⟨r579, I580, hk_581, hf⟩ := hf
        refine x_callV0 (pc := 1299) (As := [.int (xs ((x3 + (ii 1))).toNatClampNeg)]) (rest := [.int r575]) X V (mX5_count l D dA s0 hk_581) okX5 ht582 q2211 q2212 q2213 q129 q2214 ⟨rfl, hsX5_count⟩ ⟨Nat.le_of_ble_eq_true rfl, Nat.le_of_ble_eq_true rfl⟩ rfl hl.1 rfl (Nat.le_of_ble_eq_true rfl) dL_law_1299 ⟨by show cells ≤ kc; omega, by show slots ≤ ks; omega⟩ (fun H locs V => W.eq (g2 := F0 m 1302 ls [.int r579, .int r575]) rfl ?_)
        refine lv_icmp_eq (pc := 1302) (tgt := 1320) hx hb dL_law_1302 (by decide) (fun c583 => ?_) (fun c583 => ?_)
        · replace hf := if_t hf c583
          replace hf := nm_s hf; obtain ⟨u584, hu584, hf⟩ := hf
          refine lv_iinc (pc := 1320) (v := u584) (lv' := [(3, .int u584), (0, .ref sb), (1, .ref x1), (2, .ref x2)]) hx hb dL_law_1320 hl (k := 3) rfl (by rw [hu584]; rfl) (by decide) rfl (fun ls hl => ?_)
          refine lv_goto (pc := 1323) (tgt := 18) hx hb dL_law_1323 (by decide) ?_
          exact ih hf V (lv_sub hl [1, 2, 3, 0] rfl) ⟨by omega, by omega⟩
        · replace hf := if_f hf c583
          refine lv_iconst (pc := 1305) (v := (ii 0)) hx hb dL_law_1305 (by decide) ?_
          cases hf
          exact x_zretW (pc := 1306) X V hr (by omega) (by omega) (by decide) dL_law_1306
      replace hf := if_f hf c573
      by_cases c585 : ((xs (x3).toNatClampNeg) &&& (ii 63)) = (ii 42)
      · replace hf := if_t hf c585
        refine x_tswIn (pc := 33) (tgt := 1307) (off := 1274) hx hb c585 dL_law_33 (by decide) (by decide) (by decide) (by decide) ?_
        refine lv_aload_n (pc := 1307) hx hb dL_law_1307 rfl (lv_at hl 1 rfl) ?_
        replace hf := tg_s hf; obtain ⟨ht588, hf⟩ := hf
        replace hf := bs hf; obtain ⟨r586, hk_587, hf⟩ := hf
        refine x_callV0 (pc := 1308) (As := []) (rest := []) X V (mX0_status l D dA s0 hk_587) okX0 ht588 q1489 q1490 q1491 q119 q1492 ⟨rfl, hsX0_status⟩ ⟨Nat.le_of_ble_eq_true rfl, Nat.le_of_ble_eq_true rfl⟩ rfl hl.1 rfl (Nat.le_of_ble_eq_true rfl) dL_law_1308 ⟨by show cells ≤ kc; omega, by show slots ≤ ks; omega⟩ (fun H locs V => W.eq (g2 := F0 m 1311 ls [.int r586]) rfl ?_)
        refine lv_aload_n (pc := 1311) hx hb dL_law_1311 rfl (lv_at hl 2 rfl) ?_
        replace hf := tg_s hf; obtain ⟨ht592, hf⟩ := hf
        replace hf := b2s hf; obtain ⟨r589, I590, hk_591, hf⟩ := hf
        refine x_callV0 (pc := 1312) (As := []) (rest := [.int r586]) X V (mX5_status l D dA s0 hk_591) okX5 ht592 q2217 q2218 q2219 q129 q2220 ⟨rfl, hsX5_status⟩ ⟨Nat.le_of_ble_eq_true rfl, Nat.le_of_ble_eq_true rfl⟩ rfl hl.1 rfl (Nat.le_of_ble_eq_true rfl) dL_law_1312 ⟨by show cells ≤ kc; omega, by show slots ≤ ks; omega⟩ (fun H locs V => W.eq (g2 := F0 m 1315 ls [.int r589, .int r586]) rfl ?_)
        refine lv_icmp_eq (pc := 1315) (tgt := 1320) hx hb dL_law_1315 (by decide) (fun c593 => ?_) (fun c593 => ?_)
        · replace hf := if_t hf c593
          replace hf := nm_s hf; obtain ⟨u594, hu594, hf⟩ := hf
          refine lv_iinc (pc := 1320) (v := u594) (lv' := [(3, .int u594), (0, .ref sb), (1, .ref x1), (2, .ref x2)]) hx hb dL_law_1320 hl (k := 3) rfl (by rw [hu594]; rfl) (by decide) rfl (fun ls hl => ?_)
          refine lv_goto (pc := 1323) (tgt := 18) hx hb dL_law_1323 (by decide) ?_
          exact ih hf V (lv_sub hl [1, 2, 3, 0] rfl) ⟨by omega, by omega⟩
        · replace hf := if_f hf c593
          refine lv_iconst (pc := 1318) (v := (ii 0)) hx hb dL_law_1318 (by decide) ?_
          cases hf
          exact x_zretW (pc := 1319) X V hr (by omega) (by omega) (by decide) dL_law_1319
      replace hf := if_f hf c585
      refine lv_tableOut (pc := 33) (tgt := 1320) hx hb dL_law_33 (by have qc3 := lv_neT c3 (a := 0) (by decide); have qc22 := lv_neT c22 (a := 1) (by decide); have qc36 := lv_neT c36 (a := 2) (by decide); have qc51 := lv_neT c51 (a := 3) (by decide); have qc68 := lv_neT c68 (a := 4) (by decide); have qc86 := lv_neT c86 (a := 5) (by decide); have qc101 := lv_neT c101 (a := 6) (by decide); have qc122 := lv_neT c122 (a := 7) (by decide); have qc135 := lv_neT c135 (a := 8) (by decide); have qc146 := lv_neT c146 (a := 9) (by decide); have qc156 := lv_neT c156 (a := 10) (by decide); have qc166 := lv_neT c166 (a := 11) (by decide); have qc177 := lv_neT c177 (a := 12) (by decide); have qc187 := lv_neT c187 (a := 13) (by decide); have qc197 := lv_neT c197 (a := 14) (by decide); have qc210 := lv_neT c210 (a := 15) (by decide); have qc226 := lv_neT c226 (a := 16) (by decide); have qc242 := lv_neT c242 (a := 17) (by decide); have qc258 := lv_neT c258 (a := 18) (by decide); have qc272 := lv_neT c272 (a := 19) (by decide); have qc283 := lv_neT c283 (a := 20) (by decide); have qc300 := lv_neT c300 (a := 21) (by decide); have qc315 := lv_neT c315 (a := 22) (by decide); have qc332 := lv_neT c332 (a := 23) (by decide); have qc347 := lv_neT c347 (a := 24) (by decide); have qc362 := lv_neT c362 (a := 25) (by decide); have qc377 := lv_neT c377 (a := 26) (by decide); have qc390 := lv_neT c390 (a := 27) (by decide); have qc401 := lv_neT c401 (a := 28) (by decide); have qc414 := lv_neT c414 (a := 29) (by decide); have qc426 := lv_neT c426 (a := 30) (by decide); have qc443 := lv_neT c443 (a := 31) (by decide); have qc456 := lv_neT c456 (a := 32) (by decide); have qc466 := lv_neT c466 (a := 33) (by decide); have qc477 := lv_neT c477 (a := 34) (by decide); have qc487 := lv_neT c487 (a := 35) (by decide); have qc503 := lv_neT c503 (a := 36) (by decide); have qc520 := lv_neT c520 (a := 37) (by decide); have qc537 := lv_neT c537 (a := 38) (by decide); have qc551 := lv_neT c551 (a := 39) (by decide); have qc562 := lv_neT c562 (a := 40) (by decide); have qc573 := lv_neT c573 (a := 41) (by decide); have qc585 := lv_neT c585 (a := 42) (by decide); omega) (by decide) ?_
      replace hf := nm_s hf; obtain ⟨u595, hu595, hf⟩ := hf
      refine lv_iinc (pc := 1320) (v := u595) (lv' := [(3, .int u595), (0, .ref sb), (1, .ref x1), (2, .ref x2)]) hx hb dL_law_1320 hl (k := 3) rfl (by rw [hu595]; rfl) (by decide) rfl (fun ls hl => ?_)
      refine lv_goto (pc := 1323) (tgt := 18) hx hb dL_law_1323 (by decide) ?_
      exact ih hf V (lv_sub hl [1, 2, 3, 0] rfl) ⟨by omega, by omega⟩
set_option maxHeartbeats 400000 in
set_option maxRecDepth 100000 in
theorem zL_law_b15 {nf : Nat} {Ln : Nat} {xs : Nat → Int32} {dA : Nat → ClassId} {T : xT} {N : xT} {Z : Nat} {S : Nat} {I : xI} {L : xL} {R : xR}  {x1 : Nat} {z0 : Nat} {ro : Int32} {To : xT} {No : xT} {Zo : Nat} {So : Nat} {Io : xI} {Lo : xL} {Ro : xR}  (hf : fL_law_b15 nf xs Ln (sv dA) T N Z S I L R x1 z0 = some (ro, To, No, Zo, So, Io, Lo, Ro)) : Z ≤ Zo ∧ S ≤ So := by
  unfold fL_law_b15 at hf
  have hm := zL_law_b18 nf hf
  exact ⟨by omega, by omega⟩
set_option maxHeartbeats 400000 in
set_option maxRecDepth 100000 in
theorem wL_law_b15 {nf : Nat} {sb Ln : Nat} {xs : Nat → Int32} {kc ks : Nat} {cells slots : Nat} {p : Program} {l : Launch} {e : Env} {s : State} {m : MethodId} {args : Array Value} {below : List Frame} {meth : Method} {c : Code} {D : va_G} {dA : Nat → ClassId} {s0 : Nat} {T : xT} {N : xT} {Z : Nat} {S : Nat} {I : xI} {L : xL} {R : xR} {H : Heap} {locs : List Loc} {ls : Array Slot}  {x1 : Nat} {z0 : Nat} {ro : Int32} {To : xT} {No : xT} {Zo : Nat} {So : Nat} {Io : xI} {Lo : xL} {Ro : xR} (X : Cx D dA s0 p m c cL_law 4 s args RL meth) (hr : meth.sig.returnType = some .boolean) (hXs : va_X sb Ln xs s s.heap ∧ sb < s0 ∧ s0 = s.heap.size)   (hf : fL_law_b15 nf xs Ln (sv dA) T N Z S I L R x1 z0 = some (ro, To, No, Zo, So, Io, Lo, Ro)) (V : Iv D dA s0 s T N Z I L R H locs) (hl : lv_has ls 4 [(0, .ref sb), (1, .ref x1)]) (hB : cells + (Zo - Z) ≤ kc ∧ slots + (So - S) ≤ ks) : W p l e { frames := 8192, cells := kc, slots := ks, locals := 100000 } s m args below meth c H locs cells slots (MQ below (xQ D dA s0 (some (.int ro)) To No Zo Io Lo Ro) args s kc ks (fun q => s0 ≤ q)) (F0 m 15 ls [.ref z0]) := by
  have hx := X.1.1
  have hb := X.1.2.1
  unfold fL_law_b15 at hf
  refine lv_astore_n (pc := 15) (lv' := [(2, .ref z0), (0, .ref sb), (1, .ref x1)]) hx hb dL_law_15 rfl hl (by decide) rfl (fun ls hl => ?_)
  refine lv_iconst (pc := 16) (v := (ii 0)) hx hb dL_law_16 (by decide) ?_
  refine lv_istore_n (pc := 17) (lv' := [(3, .int (ii 0)), (2, .ref z0), (0, .ref sb), (1, .ref x1)]) hx hb dL_law_17 rfl hl (by decide) rfl (fun ls hl => ?_)
  exact wL_law_b18 X hr hXs nf hf V (lv_sub hl [2, 3, 1, 0] rfl) ⟨by omega, by omega⟩
set_option maxHeartbeats 400000 in
set_option maxRecDepth 100000 in
theorem zL_law_b11 {nf : Nat} {Ln : Nat} {xs : Nat → Int32} {dA : Nat → ClassId} {T : xT} {N : xT} {Z : Nat} {S : Nat} {I : xI} {L : xL} {R : xR}  {x1 : Nat} {z0 : Nat} {ro : Int32} {To : xT} {No : xT} {Zo : Nat} {So : Nat} {Io : xI} {Lo : xL} {Ro : xR}  (hf : fL_law_b11 nf xs Ln (sv dA) T N Z S I L R x1 z0 = some (ro, To, No, Zo, So, Io, Lo, Ro)) : Z ≤ Zo ∧ S ≤ So := by
  unfold fL_law_b11 at hf
  replace hf := b7s hf; obtain ⟨T1, N2, Z3, S4, I5, L6, R7, hk_8, hf⟩ := hf
  have hm_hk_8 := zX5_init hk_8
  have hm := zL_law_b15 hf
  exact ⟨by omega, by omega⟩
set_option maxHeartbeats 400000 in
set_option maxRecDepth 100000 in
theorem wL_law_b11 {nf : Nat} {sb Ln : Nat} {xs : Nat → Int32} {kc ks : Nat} {cells slots : Nat} {p : Program} {l : Launch} {e : Env} {s : State} {m : MethodId} {args : Array Value} {below : List Frame} {meth : Method} {c : Code} {D : va_G} {dA : Nat → ClassId} {s0 : Nat} {T : xT} {N : xT} {Z : Nat} {S : Nat} {I : xI} {L : xL} {R : xR} {H : Heap} {locs : List Loc} {ls : Array Slot}  {x1 : Nat} {z0 : Nat} {ro : Int32} {To : xT} {No : xT} {Zo : Nat} {So : Nat} {Io : xI} {Lo : xL} {Ro : xR} (X : Cx D dA s0 p m c cL_law 4 s args RL meth) (hr : meth.sig.returnType = some .boolean) (hXs : va_X sb Ln xs s s.heap ∧ sb < s0 ∧ s0 = s.heap.size)   (hf : fL_law_b11 nf xs Ln (sv dA) T N Z S I L R x1 z0 = some (ro, To, No, Zo, So, Io, Lo, Ro)) (V : Iv D dA s0 s T N Z I L R H locs) (hl : lv_has ls 4 [(0, .ref sb), (1, .ref x1)]) (hB : cells + (Zo - Z) ≤ kc ∧ slots + (So - S) ≤ ks) : W p l e { frames := 8192, cells := kc, slots := ks, locals := 100000 } s m args below meth c H locs cells slots (MQ below (xQ D dA s0 (some (.int ro)) To No Zo Io Lo Ro) args s kc ks (fun q => s0 ≤ q)) (F0 m 11 ls [.ref z0]) := by
  have hx := X.1.1
  have hb := X.1.2.1
  unfold fL_law_b11 at hf
  refine lv_dup (pc := 11) hx hb dL_law_11 rfl ?_
  replace hf := b7s hf; obtain ⟨T1, N2, Z3, S4, I5, L6, R7, hk_8, hf⟩ := hf
  have hm_hk_8 := zX5_init hk_8
  have hm := zL_law_b15 hf
  refine x_callI (pc := 12) (As := []) (rest := [.ref z0]) X V (mX5_init l D dA s0 (kc := Z3 - Z) (ks := S4 - S) (Nat.le_refl _) (Nat.le_refl _) hk_8) q1495 q1496 q129 q1497 rfl hsX5_init ⟨Nat.le_of_ble_eq_true rfl, Nat.le_of_ble_eq_true rfl⟩ rfl hl.1 rfl (Nat.le_of_ble_eq_true rfl) dL_law_12 ⟨by show _ ≤ kc; omega, by show _ ≤ ks; omega⟩ (fun H locs V => W.eq (g2 := F0 m 15 ls [.ref z0]) rfl ?_)
  exact wL_law_b15 X hr hXs hf V (lv_sub hl [0, 1] rfl) ⟨by omega, by omega⟩
set_option maxHeartbeats 400000 in
set_option maxRecDepth 100000 in
theorem zL_law_b7 {nf : Nat} {Ln : Nat} {xs : Nat → Int32} {dA : Nat → ClassId} {T : xT} {N : xT} {Z : Nat} {S : Nat} {I : xI} {L : xL} {R : xR}  {z0 : Nat} {ro : Int32} {To : xT} {No : xT} {Zo : Nat} {So : Nat} {Io : xI} {Lo : xL} {Ro : xR}  (hf : fL_law_b7 nf xs Ln (sv dA) T N Z S I L R z0 = some (ro, To, No, Zo, So, Io, Lo, Ro)) : Z ≤ Zo ∧ S ≤ So := by
  unfold fL_law_b7 at hf
  replace hf := nm_s hf; obtain ⟨T1, hT1, hf⟩ := hf
  replace hf := nm_s hf; obtain ⟨Z2, hZ2, hf⟩ := hf
  replace hf := nm_s hf; obtain ⟨S3, hS3, hf⟩ := hf
  have hm := zL_law_b11 hf
  exact ⟨by omega, by omega⟩
set_option maxHeartbeats 400000 in
set_option maxRecDepth 100000 in
theorem wL_law_b7 {nf : Nat} {sb Ln : Nat} {xs : Nat → Int32} {kc ks : Nat} {cells slots : Nat} {p : Program} {l : Launch} {e : Env} {s : State} {m : MethodId} {args : Array Value} {below : List Frame} {meth : Method} {c : Code} {D : va_G} {dA : Nat → ClassId} {s0 : Nat} {T : xT} {N : xT} {Z : Nat} {S : Nat} {I : xI} {L : xL} {R : xR} {H : Heap} {locs : List Loc} {ls : Array Slot}  {z0 : Nat} {ro : Int32} {To : xT} {No : xT} {Zo : Nat} {So : Nat} {Io : xI} {Lo : xL} {Ro : xR} (X : Cx D dA s0 p m c cL_law 4 s args RL meth) (hr : meth.sig.returnType = some .boolean) (hXs : va_X sb Ln xs s s.heap ∧ sb < s0 ∧ s0 = s.heap.size)   (hf : fL_law_b7 nf xs Ln (sv dA) T N Z S I L R z0 = some (ro, To, No, Zo, So, Io, Lo, Ro)) (V : Iv D dA s0 s T N Z I L R H locs) (hl : lv_has ls 4 [(0, .ref sb)]) (hB : cells + (Zo - Z) ≤ kc ∧ slots + (So - S) ≤ ks) : W p l e { frames := 8192, cells := kc, slots := ks, locals := 100000 } s m args below meth c H locs cells slots (MQ below (xQ D dA s0 (some (.int ro)) To No Zo Io Lo Ro) args s kc ks (fun q => s0 ≤ q)) (F0 m 7 ls [.ref z0]) := by
  have hx := X.1.1
  have hb := X.1.2.1
  unfold fL_law_b7 at hf
  refine lv_astore_n (pc := 7) (lv' := [(1, .ref z0), (0, .ref sb)]) hx hb dL_law_7 rfl hl (by decide) rfl (fun ls hl => ?_)
  replace hf := nm_s hf; obtain ⟨T1, hT1, hf⟩ := hf
  replace hf := nm_s hf; obtain ⟨Z2, hZ2, hf⟩ := hf
  replace hf := nm_s hf; obtain ⟨S3, hS3, hf⟩ := hf
  have hm := zL_law_b11 hf
  refine x_new (pc := 8) X V okX5 hT1 hZ2 q1493 q1494 q129 (by show _ ≤ kc; omega) (by show _ ≤ ks; omega) dL_law_8 (fun H V => ?_)
  exact wL_law_b11 X hr hXs hf V (lv_sub hl [1, 0] rfl) ⟨by omega, by omega⟩
set_option maxHeartbeats 400000 in
set_option maxRecDepth 100000 in
theorem zL_law_b3 {nf : Nat} {Ln : Nat} {xs : Nat → Int32} {dA : Nat → ClassId} {T : xT} {N : xT} {Z : Nat} {S : Nat} {I : xI} {L : xL} {R : xR}  {z0 : Nat} {ro : Int32} {To : xT} {No : xT} {Zo : Nat} {So : Nat} {Io : xI} {Lo : xL} {Ro : xR}  (hf : fL_law_b3 nf xs Ln (sv dA) T N Z S I L R z0 = some (ro, To, No, Zo, So, Io, Lo, Ro)) : Z ≤ Zo ∧ S ≤ So := by
  unfold fL_law_b3 at hf
  replace hf := b6s hf; obtain ⟨T1, N2, Z3, S4, I5, R6, hk_7, hf⟩ := hf
  have hm_hk_7 := zX0_init hk_7
  have hm := zL_law_b7 hf
  exact ⟨by omega, by omega⟩
set_option maxHeartbeats 400000 in
set_option maxRecDepth 100000 in
theorem wL_law_b3 {nf : Nat} {sb Ln : Nat} {xs : Nat → Int32} {kc ks : Nat} {cells slots : Nat} {p : Program} {l : Launch} {e : Env} {s : State} {m : MethodId} {args : Array Value} {below : List Frame} {meth : Method} {c : Code} {D : va_G} {dA : Nat → ClassId} {s0 : Nat} {T : xT} {N : xT} {Z : Nat} {S : Nat} {I : xI} {L : xL} {R : xR} {H : Heap} {locs : List Loc} {ls : Array Slot}  {z0 : Nat} {ro : Int32} {To : xT} {No : xT} {Zo : Nat} {So : Nat} {Io : xI} {Lo : xL} {Ro : xR} (X : Cx D dA s0 p m c cL_law 4 s args RL meth) (hr : meth.sig.returnType = some .boolean) (hXs : va_X sb Ln xs s s.heap ∧ sb < s0 ∧ s0 = s.heap.size)   (hf : fL_law_b3 nf xs Ln (sv dA) T N Z S I L R z0 = some (ro, To, No, Zo, So, Io, Lo, Ro)) (V : Iv D dA s0 s T N Z I L R H locs) (hl : lv_has ls 4 [(0, .ref sb)]) (hB : cells + (Zo - Z) ≤ kc ∧ slots + (So - S) ≤ ks) : W p l e { frames := 8192, cells := kc, slots := ks, locals := 100000 } s m args below meth c H locs cells slots (MQ below (xQ D dA s0 (some (.int ro)) To No Zo Io Lo Ro) args s kc ks (fun q => s0 ≤ q)) (F0 m 3 ls [.ref z0]) := by
  have hx := X.1.1
  have hb := X.1.2.1
  unfold fL_law_b3 at hf
  refine lv_dup (pc := 3) hx hb dL_law_3 rfl ?_
  replace hf := b6s hf; obtain ⟨T1, N2, Z3, S4, I5, R6, hk_7, hf⟩ := hf
  have hm_hk_7 := zX0_init hk_7
  have hm := zL_law_b7 hf
  refine x_callI (pc := 4) (As := []) (rest := [.ref z0]) X V (mX0_init l D dA s0 (kc := Z3 - Z) (ks := S4 - S) (Nat.le_refl _) (Nat.le_refl _) hk_7) q157 q158 q119 q159 rfl hsX0_init ⟨Nat.le_of_ble_eq_true rfl, Nat.le_of_ble_eq_true rfl⟩ rfl hl.1 rfl (Nat.le_of_ble_eq_true rfl) dL_law_4 ⟨by show _ ≤ kc; omega, by show _ ≤ ks; omega⟩ (fun H locs V => W.eq (g2 := F0 m 7 ls [.ref z0]) rfl ?_)
  exact wL_law_b7 X hr hXs hf V (lv_sub hl [0] rfl) ⟨by omega, by omega⟩
set_option maxHeartbeats 400000 in
set_option maxRecDepth 100000 in
theorem zL_law {nf : Nat} {Ln : Nat} {xs : Nat → Int32} {dA : Nat → ClassId} {T : xT} {N : xT} {Z : Nat} {S : Nat} {I : xI} {L : xL} {R : xR}  {ro : Int32} {To : xT} {No : xT} {Zo : Nat} {So : Nat} {Io : xI} {Lo : xL} {Ro : xR} (hf : fL_law nf xs Ln (sv dA) T N Z S I L R = some (ro, To, No, Zo, So, Io, Lo, Ro)) : Z ≤ Zo ∧ S ≤ So := by
  unfold fL_law at hf
  replace hf := nm_s hf; obtain ⟨T1, hT1, hf⟩ := hf
  replace hf := nm_s hf; obtain ⟨Z2, hZ2, hf⟩ := hf
  replace hf := nm_s hf; obtain ⟨S3, hS3, hf⟩ := hf
  have hm := zL_law_b3 hf
  exact ⟨by omega, by omega⟩
set_option maxHeartbeats 400000 in
set_option maxRecDepth 100000 in
theorem wL_law_e {nf : Nat} {sb Ln : Nat} {xs : Nat → Int32} {kc ks : Nat} {cells slots : Nat} {p : Program} {l : Launch} {e : Env} {s : State} {m : MethodId} {args : Array Value} {below : List Frame} {meth : Method} {c : Code} {D : va_G} {dA : Nat → ClassId} {s0 : Nat} {T : xT} {N : xT} {Z : Nat} {S : Nat} {I : xI} {L : xL} {R : xR} {H : Heap} {locs : List Loc} {ls : Array Slot}  {ro : Int32} {To : xT} {No : xT} {Zo : Nat} {So : Nat} {Io : xI} {Lo : xL} {Ro : xR} (X : Cx D dA s0 p m c cL_law 4 s args RL meth) (hr : meth.sig.returnType = some .boolean) (hXs : va_X sb Ln xs s s.heap ∧ sb < s0 ∧ s0 = s.heap.size) (hf : fL_law nf xs Ln (sv dA) T N Z S I L R = some (ro, To, No, Zo, So, Io, Lo, Ro)) (V : Iv D dA s0 s T N Z I L R H locs) (hl : lv_has ls 4 [(0, .ref sb)]) (hB : cells + (Zo - Z) ≤ kc ∧ slots + (So - S) ≤ ks) : W p l e { frames := 8192, cells := kc, slots := ks, locals := 100000 } s m args below meth c H locs cells slots (MQ below (xQ D dA s0 (some (.int ro)) To No Zo Io Lo Ro) args s kc ks (fun q => s0 ≤ q)) (F0 m 0 ls []) := by
  have hx := X.1.1
  have hb := X.1.2.1
  unfold fL_law at hf
  replace hf := nm_s hf; obtain ⟨T1, hT1, hf⟩ := hf
  replace hf := nm_s hf; obtain ⟨Z2, hZ2, hf⟩ := hf
  replace hf := nm_s hf; obtain ⟨S3, hS3, hf⟩ := hf
  have hm := zL_law_b3 hf
  refine x_new (pc := 0) X V okX0 hT1 hZ2 q155 q156 q119 (by show _ ≤ kc; omega) (by show _ ≤ ks; omega) dL_law_0 (fun H V => ?_)
  exact wL_law_b3 X hr hXs hf V (lv_sub hl [0] rfl) ⟨by omega, by omega⟩
