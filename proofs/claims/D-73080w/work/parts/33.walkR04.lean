set_option maxHeartbeats 400000 in
set_option maxRecDepth 100000 in
theorem zX6_begins_rX20_b16 {dA : Nat → ClassId} {T : xT} {N : xT} {Z : Nat} {S : Nat} {I : xI} {R : xR}  {x0 : Nat} {z0 : Nat} {ro : (Nat ⊕ Unit)} {To : xT} {No : xT} {Zo : Nat} {So : Nat} {Io : xI} {Ro : xR}  (hf : fX6_begins_rX20_b16 (sv dA) T N Z S I R x0 z0 = some (ro, To, No, Zo, So, Io, Ro)) : Z ≤ Zo ∧ S ≤ So := by
  unfold fX6_begins_rX20_b16 at hf
  replace hf := tg_s hf; obtain ⟨ht1, hf⟩ := hf
  replace hf := b2s hf; obtain ⟨I2, R3, hk_4, hf⟩ := hf
  replace hf := tg_s hf; obtain ⟨ht5, hf⟩ := hf
  cases hf
  exact ⟨Nat.le_refl _, Nat.le_refl _⟩
set_option maxHeartbeats 400000 in
set_option maxRecDepth 100000 in
theorem wX6_begins_rX20_b16 {kc ks : Nat} {cells slots : Nat} {p : Program} {l : Launch} {e : Env} {s : State} {m : MethodId} {args : Array Value} {below : List Frame} {meth : Method} {c : Code} {D : va_G} {dA : Nat → ClassId} {s0 : Nat} {T : xT} {N : xT} {Z : Nat} {S : Nat} {I : xI} {L : xL} {R : xR} {H : Heap} {locs : List Loc} {ls : Array Slot}  {x0 : Nat} {z0 : Nat} {ro : (Nat ⊕ Unit)} {To : xT} {No : xT} {Zo : Nat} {So : Nat} {Io : xI} {Ro : xR} (X : Cx D dA s0 p m c cX6_begins 2 s args RX6 meth) (hr : meth.sig.returnType = none) (htE : c.exceptionTable.toList = [])   (hf : fX6_begins_rX20_b16 (sv dA) T N Z S I R x0 z0 = some (ro, To, No, Zo, So, Io, Ro)) (V : Iv D dA s0 s T N Z I L R H locs) (hl : lv_has ls 2 [(0, .ref x0)]) (hB : cells + (Zo - Z) ≤ kc ∧ slots + (So - S) ≤ ks) : W p l e { frames := 4, cells := kc, slots := ks, locals := 89 } s m args below meth c H locs cells slots (vx_MQ below (yQ D dA s0 (rV ro) To No Zo Io L Ro) (yX D dA s0 (rV ro) To No Zo Io L Ro) args s kc ks (fun q => s0 ≤ q)) (F0 m 16 ls [.ref z0]) := by
  have hx := X.1.1
  have hb := X.1.2.1
  unfold fX6_begins_rX20_b16 at hf
  refine lv_dup (pc := 16) hx hb dX6_begins_16 rfl ?_
  refine lv_aload_n (pc := 17) hx hb dX6_begins_17 rfl (lv_at hl 0 rfl) ?_
  replace hf := tg_s hf; obtain ⟨ht1, hf⟩ := hf
  refine x_get (pc := 18) X V okX20 ht1 3 (by decide) q744 (v := .int (I x0 3)) rfl dX6_begins_18 ?_
  replace hf := b2s hf; obtain ⟨I2, R3, hk_4, hf⟩ := hf
  refine x_callI0 (pc := 21) (As := [.int (I x0 3)]) (rest := [.ref z0]) X V (mX8_init l D dA s0 hk_4) q864 q865 q138 q866 rfl hsX8_init ⟨Nat.le_of_ble_eq_true rfl, Nat.le_of_ble_eq_true rfl⟩ rfl hl.1 rfl (Nat.le_of_ble_eq_true rfl) dX6_begins_21 ⟨by show cells ≤ kc; omega, by show slots ≤ ks; omega⟩ (fun H locs V => W.eq (g2 := F0 m 24 ls [.ref z0]) rfl ?_)
  replace hf := tg_s hf; obtain ⟨ht5, hf⟩ := hf
  refine vx_athrow (pc := 24) hx hb dX6_begins_24 ?_
  cases hf
  exact y_out X V htE okX8 ht5 (by omega) (by omega)
set_option maxHeartbeats 400000 in
set_option maxRecDepth 100000 in
theorem zX6_begins_rX20_b13 {dA : Nat → ClassId} {T : xT} {N : xT} {Z : Nat} {S : Nat} {I : xI} {R : xR}  {x0 : Nat} {ro : (Nat ⊕ Unit)} {To : xT} {No : xT} {Zo : Nat} {So : Nat} {Io : xI} {Ro : xR}  (hf : fX6_begins_rX20_b13 (sv dA) T N Z S I R x0 = some (ro, To, No, Zo, So, Io, Ro)) : Z ≤ Zo ∧ S ≤ So := by
  unfold fX6_begins_rX20_b13 at hf
  replace hf := nm_s hf; obtain ⟨T1, hT1, hf⟩ := hf
  replace hf := nm_s hf; obtain ⟨Z2, hZ2, hf⟩ := hf
  replace hf := nm_s hf; obtain ⟨S3, hS3, hf⟩ := hf
  have hm := zX6_begins_rX20_b16 hf
  exact ⟨by omega, by omega⟩
set_option maxHeartbeats 400000 in
set_option maxRecDepth 100000 in
theorem wX6_begins_rX20_b13 {kc ks : Nat} {cells slots : Nat} {p : Program} {l : Launch} {e : Env} {s : State} {m : MethodId} {args : Array Value} {below : List Frame} {meth : Method} {c : Code} {D : va_G} {dA : Nat → ClassId} {s0 : Nat} {T : xT} {N : xT} {Z : Nat} {S : Nat} {I : xI} {L : xL} {R : xR} {H : Heap} {locs : List Loc} {ls : Array Slot}  {x0 : Nat} {ro : (Nat ⊕ Unit)} {To : xT} {No : xT} {Zo : Nat} {So : Nat} {Io : xI} {Ro : xR} (X : Cx D dA s0 p m c cX6_begins 2 s args RX6 meth) (hr : meth.sig.returnType = none) (htE : c.exceptionTable.toList = [])   (hf : fX6_begins_rX20_b13 (sv dA) T N Z S I R x0 = some (ro, To, No, Zo, So, Io, Ro)) (V : Iv D dA s0 s T N Z I L R H locs) (hl : lv_has ls 2 [(0, .ref x0)]) (hB : cells + (Zo - Z) ≤ kc ∧ slots + (So - S) ≤ ks) : W p l e { frames := 4, cells := kc, slots := ks, locals := 89 } s m args below meth c H locs cells slots (vx_MQ below (yQ D dA s0 (rV ro) To No Zo Io L Ro) (yX D dA s0 (rV ro) To No Zo Io L Ro) args s kc ks (fun q => s0 ≤ q)) (F0 m 13 ls []) := by
  have hx := X.1.1
  have hb := X.1.2.1
  unfold fX6_begins_rX20_b13 at hf
  replace hf := nm_s hf; obtain ⟨T1, hT1, hf⟩ := hf
  replace hf := nm_s hf; obtain ⟨Z2, hZ2, hf⟩ := hf
  replace hf := nm_s hf; obtain ⟨S3, hS3, hf⟩ := hf
  have hm := zX6_begins_rX20_b16 hf
  refine x_new (pc := 13) X V okX8 hT1 hZ2 q855 q856 q138 (by show _ ≤ kc; omega) (by show _ ≤ ks; omega) dX6_begins_13 (fun H V => ?_)
  exact wX6_begins_rX20_b16 X hr htE hf V (lv_sub hl [0] rfl) ⟨by omega, by omega⟩
set_option maxHeartbeats 400000 in
set_option maxRecDepth 100000 in
theorem zX6_begins_rX20 {dA : Nat → ClassId} {T : xT} {N : xT} {Z : Nat} {S : Nat} {I : xI} {R : xR} {x0 : Nat} {x1 : Int32} {ro : (Nat ⊕ Unit)} {To : xT} {No : xT} {Zo : Nat} {So : Nat} {Io : xI} {Ro : xR} (hf : fX6_begins_rX20 (sv dA) T N Z S I R x0 x1 = some (ro, To, No, Zo, So, Io, Ro)) : Z ≤ Zo ∧ S ≤ So := by
  unfold fX6_begins_rX20 at hf
  replace hf := tg_s hf; obtain ⟨ht1, hf⟩ := hf
  rcases (Decidable.em ((I x0 2) = (ii 12))) with c2 | c2
  · replace hf := if_t hf c2
    have hm := zX6_begins_rX20_b13 hf
    exact ⟨by omega, by omega⟩
  · replace hf := if_f hf c2
    rcases (Decidable.em (x1 = (ii 0))).symm with c3 | c3
    · replace hf := if_f hf c3
      replace hf := nm_s hf; obtain ⟨I4, hI4, hf⟩ := hf
      cases hf
      exact ⟨Nat.le_refl _, Nat.le_refl _⟩
    · replace hf := if_t hf c3
      have hm := zX6_begins_rX20_b13 hf
      exact ⟨by omega, by omega⟩
set_option maxHeartbeats 400000 in
set_option maxRecDepth 100000 in
theorem wX6_begins_rX20_e {kc ks : Nat} {cells slots : Nat} {p : Program} {l : Launch} {e : Env} {s : State} {m : MethodId} {args : Array Value} {below : List Frame} {meth : Method} {c : Code} {D : va_G} {dA : Nat → ClassId} {s0 : Nat} {T : xT} {N : xT} {Z : Nat} {S : Nat} {I : xI} {L : xL} {R : xR} {H : Heap} {locs : List Loc} {ls : Array Slot} {x0 : Nat} {x1 : Int32} {ro : (Nat ⊕ Unit)} {To : xT} {No : xT} {Zo : Nat} {So : Nat} {Io : xI} {Ro : xR} (X : Cx D dA s0 p m c cX6_begins 2 s args RX6 meth) (hr : meth.sig.returnType = none) (htE : c.exceptionTable.toList = []) (hf : fX6_begins_rX20 (sv dA) T N Z S I R x0 x1 = some (ro, To, No, Zo, So, Io, Ro)) (V : Iv D dA s0 s T N Z I L R H locs) (hl : lv_has ls 2 [(0, .ref x0), (1, .int x1)]) (hB : cells + (Zo - Z) ≤ kc ∧ slots + (So - S) ≤ ks) : W p l e { frames := 4, cells := kc, slots := ks, locals := 89 } s m args below meth c H locs cells slots (vx_MQ below (yQ D dA s0 (rV ro) To No Zo Io L Ro) (yX D dA s0 (rV ro) To No Zo Io L Ro) args s kc ks (fun q => s0 ≤ q)) (F0 m 0 ls []) := by
  have hx := X.1.1
  have hb := X.1.2.1
  unfold fX6_begins_rX20 at hf
  refine lv_aload_n (pc := 0) hx hb dX6_begins_0 rfl (lv_at hl 0 rfl) ?_
  replace hf := tg_s hf; obtain ⟨ht1, hf⟩ := hf
  refine x_get (pc := 1) X V okX20 ht1 2 (by decide) q743 (v := .int (I x0 2)) rfl dX6_begins_1 ?_
  refine lv_bipush (pc := 4) (v := (ii 12)) hx hb dX6_begins_4 (by decide) ?_
  refine lv_icmp_eq (pc := 6) (tgt := 13) hx hb dX6_begins_6 (by decide) (fun c2 => ?_) (fun c2 => ?_)
  · replace hf := if_t hf c2
    exact wX6_begins_rX20_b13 X hr htE hf V (lv_sub hl [0] rfl) ⟨by omega, by omega⟩
  · replace hf := if_f hf c2
    refine lv_iload_n (pc := 9) hx hb dX6_begins_9 rfl (lv_at hl 1 rfl) ?_
    refine lv_if_ne (pc := 10) (tgt := 25) hx hb dX6_begins_10 (by decide) (fun c3 => ?_) (fun c3 => ?_)
    · replace hf := if_f hf c3
      refine lv_aload_n (pc := 25) hx hb dX6_begins_25 rfl (lv_at hl 0 rfl) ?_
      refine lv_dup (pc := 26) hx hb dX6_begins_26 rfl ?_
      refine x_get (pc := 27) X V okX20 ht1 2 (by decide) q743 (v := .int (I x0 2)) rfl dX6_begins_27 ?_
      refine lv_iconst (pc := 30) (v := (ii 1)) hx hb dX6_begins_30 (by decide) ?_
      refine lv_iadd (pc := 31) hx hb dX6_begins_31 ?_
      replace hf := nm_s hf; obtain ⟨I4, hI4, hf⟩ := hf
      refine x_puti (pc := 32) X V okX20 (by decide) ht1 2 (by decide) q743 (Or.inl rfl) hI4 (fun _ _ _ => rfl) rfl rfl dX6_begins_32 (fun H locs V => ?_)
      cases hf
      exact y_vret (pc := 35) X V hr (by omega) (by omega) dX6_begins_35
    · replace hf := if_t hf c3
      exact wX6_begins_rX20_b13 X hr htE hf V (lv_sub hl [0] rfl) ⟨by omega, by omega⟩
theorem mX6_begins_rX20 (l : Launch) (D : va_G) (dA : Nat → ClassId) (s0 : Nat) {kc ks : Nat} {T : xT} {N : xT} {Z : Nat} {S : Nat} {I : xI} {L : xL} {R : xR} {x0 : Nat} {x1 : Int32} {ro : (Nat ⊕ Unit)} {To : xT} {No : xT} {Zo : Nat} {So : Nat} {Io : xI} {Ro : xR} (hZ : Zo - Z ≤ kc) (hS : So - S ≤ ks) (hf : fX6_begins_rX20 (sv dA) T N Z S I R x0 x1 = some (ro, To, No, Zo, So, Io, Ro)) : YMet l D dA s0 yX6_begins (ws_ yX6_begins cX6_begins 2 (none)) (4) (89) [.ref x0, .int x1] T N Z I L R (rV ro) To No Zo Io L Ro kc ks :=
  y_start (own := RX6) rfl (by decide) (Nat.le_of_ble_eq_true rfl) (lv := [(0, .ref x0), (1, .int x1)]) rfl (fun p e s m below meth c ls X hr htE V hl => wX6_begins_rX20_e X hr htE hf V hl ⟨by omega, by omega⟩)
set_option maxHeartbeats 400000 in
set_option maxRecDepth 100000 in
theorem zX6_opens_rX20_b12 {nf : Nat} {dA : Nat → ClassId} {T : xT} {N : xT} {Z : Nat} {S : Nat} {I : xI} {R : xR}  {x0 : Nat} {z0 : Nat} {ro : (Nat ⊕ Unit)} {To : xT} {No : xT} {Zo : Nat} {So : Nat} {Io : xI} {Ro : xR}  (hf : fX6_opens_rX20_b12 nf (sv dA) T N Z S I R x0 z0 = some (ro, To, No, Zo, So, Io, Ro)) : Z ≤ Zo ∧ S ≤ So := by
  unfold fX6_opens_rX20_b12 at hf
  replace hf := tg_s hf; obtain ⟨ht1, hf⟩ := hf
  replace hf := b2s hf; obtain ⟨I2, R3, hk_4, hf⟩ := hf
  replace hf := tg_s hf; obtain ⟨ht5, hf⟩ := hf
  cases hf
  exact ⟨Nat.le_refl _, Nat.le_refl _⟩
set_option maxHeartbeats 400000 in
set_option maxRecDepth 100000 in
theorem wX6_opens_rX20_b12 {nf : Nat} {kc ks : Nat} {cells slots : Nat} {p : Program} {l : Launch} {e : Env} {s : State} {m : MethodId} {args : Array Value} {below : List Frame} {meth : Method} {c : Code} {D : va_G} {dA : Nat → ClassId} {s0 : Nat} {T : xT} {N : xT} {Z : Nat} {S : Nat} {I : xI} {L : xL} {R : xR} {H : Heap} {locs : List Loc} {ls : Array Slot}  {x0 : Nat} {z0 : Nat} {ro : (Nat ⊕ Unit)} {To : xT} {No : xT} {Zo : Nat} {So : Nat} {Io : xI} {Ro : xR} (X : Cx D dA s0 p m c cX6_opens 1 s args RX6 meth) (hr : meth.sig.returnType = none) (htE : c.exceptionTable.toList = [])   (hf : fX6_opens_rX20_b12 nf (sv dA) T N Z S I R x0 z0 = some (ro, To, No, Zo, So, Io, Ro)) (V : Iv D dA s0 s T N Z I L R H locs) (hl : lv_has ls 1 [(0, .ref x0)]) (hB : cells + (Zo - Z) ≤ kc ∧ slots + (So - S) ≤ ks) : W p l e { frames := 4, cells := kc, slots := ks, locals := 89 } s m args below meth c H locs cells slots (vx_MQ below (yQ D dA s0 (rV ro) To No Zo Io L Ro) (yX D dA s0 (rV ro) To No Zo Io L Ro) args s kc ks (fun q => s0 ≤ q)) (F0 m 12 ls [.ref z0]) := by
  have hx := X.1.1
  have hb := X.1.2.1
  unfold fX6_opens_rX20_b12 at hf
  refine lv_dup (pc := 12) hx hb dX6_opens_12 rfl ?_
  refine lv_aload_n (pc := 13) hx hb dX6_opens_13 rfl (lv_at hl 0 rfl) ?_
  replace hf := tg_s hf; obtain ⟨ht1, hf⟩ := hf
  refine x_get (pc := 14) X V okX20 ht1 3 (by decide) q744 (v := .int (I x0 3)) rfl dX6_opens_14 ?_
  replace hf := b2s hf; obtain ⟨I2, R3, hk_4, hf⟩ := hf
  refine x_callI0 (pc := 17) (As := [.int (I x0 3)]) (rest := [.ref z0]) X V (mX8_init l D dA s0 hk_4) q864 q865 q138 q866 rfl hsX8_init ⟨Nat.le_of_ble_eq_true rfl, Nat.le_of_ble_eq_true rfl⟩ rfl hl.1 rfl (Nat.le_of_ble_eq_true rfl) dX6_opens_17 ⟨by show cells ≤ kc; omega, by show slots ≤ ks; omega⟩ (fun H locs V => W.eq (g2 := F0 m 20 ls [.ref z0]) rfl ?_)
  replace hf := tg_s hf; obtain ⟨ht5, hf⟩ := hf
  refine vx_athrow (pc := 20) hx hb dX6_opens_20 ?_
  cases hf
  exact y_out X V htE okX8 ht5 (by omega) (by omega)
set_option maxHeartbeats 400000 in
set_option maxRecDepth 100000 in
theorem zX6_opens_rX20 {nf : Nat} {dA : Nat → ClassId} {T : xT} {N : xT} {Z : Nat} {S : Nat} {I : xI} {R : xR} {x0 : Nat} {ro : (Nat ⊕ Unit)} {To : xT} {No : xT} {Zo : Nat} {So : Nat} {Io : xI} {Ro : xR} (hf : fX6_opens_rX20 nf (sv dA) T N Z S I R x0 = some (ro, To, No, Zo, So, Io, Ro)) : Z ≤ Zo ∧ S ≤ So := by
  unfold fX6_opens_rX20 at hf
  replace hf := tg_s hf; obtain ⟨ht1, hf⟩ := hf
  rcases (Decidable.em ((I x0 6) = (ii 8))).symm with c2 | c2
  · replace hf := if_f hf c2
    replace hf := nm_s hf; obtain ⟨I3, hI3, hf⟩ := hf
    replace hf := bs hf; obtain ⟨I4, hk_5, hf⟩ := hf
    cases hf
    exact ⟨Nat.le_refl _, Nat.le_refl _⟩
  · replace hf := if_t hf c2
    replace hf := nm_s hf; obtain ⟨T6, hT6, hf⟩ := hf
    replace hf := nm_s hf; obtain ⟨Z7, hZ7, hf⟩ := hf
    replace hf := nm_s hf; obtain ⟨S8, hS8, hf⟩ := hf
    have hm := zX6_opens_rX20_b12 hf
    exact ⟨by omega, by omega⟩
set_option maxHeartbeats 400000 in
set_option maxRecDepth 100000 in
theorem wX6_opens_rX20_e {nf : Nat} {kc ks : Nat} {cells slots : Nat} {p : Program} {l : Launch} {e : Env} {s : State} {m : MethodId} {args : Array Value} {below : List Frame} {meth : Method} {c : Code} {D : va_G} {dA : Nat → ClassId} {s0 : Nat} {T : xT} {N : xT} {Z : Nat} {S : Nat} {I : xI} {L : xL} {R : xR} {H : Heap} {locs : List Loc} {ls : Array Slot} {x0 : Nat} {ro : (Nat ⊕ Unit)} {To : xT} {No : xT} {Zo : Nat} {So : Nat} {Io : xI} {Ro : xR} (X : Cx D dA s0 p m c cX6_opens 1 s args RX6 meth) (hr : meth.sig.returnType = none) (htE : c.exceptionTable.toList = []) (hf : fX6_opens_rX20 nf (sv dA) T N Z S I R x0 = some (ro, To, No, Zo, So, Io, Ro)) (V : Iv D dA s0 s T N Z I L R H locs) (hl : lv_has ls 1 [(0, .ref x0)]) (hB : cells + (Zo - Z) ≤ kc ∧ slots + (So - S) ≤ ks) : W p l e { frames := 4, cells := kc, slots := ks, locals := 89 } s m args below meth c H locs cells slots (vx_MQ below (yQ D dA s0 (rV ro) To No Zo Io L Ro) (yX D dA s0 (rV ro) To No Zo Io L Ro) args s kc ks (fun q => s0 ≤ q)) (F0 m 0 ls []) := by
  have hx := X.1.1
  have hb := X.1.2.1
  unfold fX6_opens_rX20 at hf
  refine lv_aload_n (pc := 0) hx hb dX6_opens_0 rfl (lv_at hl 0 rfl) ?_
  replace hf := tg_s hf; obtain ⟨ht1, hf⟩ := hf
  refine x_get (pc := 1) X V okX20 ht1 6 (by decide) q747 (v := .int (I x0 6)) rfl dX6_opens_1 ?_
  refine lv_bipush (pc := 4) (v := (ii 8)) hx hb dX6_opens_4 (by decide) ?_
  refine lv_icmp_ne (pc := 6) (tgt := 21) hx hb dX6_opens_6 (by decide) (fun c2 => ?_) (fun c2 => ?_)
  · replace hf := if_f hf c2
    refine lv_aload_n (pc := 21) hx hb dX6_opens_21 rfl (lv_at hl 0 rfl) ?_
    refine lv_dup (pc := 22) hx hb dX6_opens_22 rfl ?_
    refine x_get (pc := 23) X V okX20 ht1 6 (by decide) q747 (v := .int (I x0 6)) rfl dX6_opens_23 ?_
    refine lv_iconst (pc := 26) (v := (ii 1)) hx hb dX6_opens_26 (by decide) ?_
    refine lv_iadd (pc := 27) hx hb dX6_opens_27 ?_
    replace hf := nm_s hf; obtain ⟨I3, hI3, hf⟩ := hf
    refine x_puti (pc := 28) X V okX20 (by decide) ht1 6 (by decide) q747 (Or.inl rfl) hI3 (fun _ _ _ => rfl) rfl rfl dX6_opens_28 (fun H locs V => ?_)
    refine lv_aload_n (pc := 31) hx hb dX6_opens_31 rfl (lv_at hl 0 rfl) ?_
    replace hf := bs hf; obtain ⟨I4, hk_5, hf⟩ := hf
    refine x_callU (pc := 32) (As := []) (rest := []) X V (mX6_next_rX20 l D dA s0 hk_5) okX20 ht1 q776 q778 q780 q777 q133 q781 rfl hsX6_next_rX20 ⟨Nat.le_of_ble_eq_true rfl, Nat.le_of_ble_eq_true rfl⟩ rfl hl.1 rfl (Nat.le_of_ble_eq_true rfl) dX6_opens_32 ⟨by show cells ≤ kc; omega, by show slots ≤ ks; omega⟩ (fun H locs V => W.eq (g2 := F0 m 35 ls []) rfl ?_)
    cases hf
    exact y_vret (pc := 35) X V hr (by omega) (by omega) dX6_opens_35
  · replace hf := if_t hf c2
    replace hf := nm_s hf; obtain ⟨T6, hT6, hf⟩ := hf
    replace hf := nm_s hf; obtain ⟨Z7, hZ7, hf⟩ := hf
    replace hf := nm_s hf; obtain ⟨S8, hS8, hf⟩ := hf
    have hm := zX6_opens_rX20_b12 hf
    refine x_new (pc := 9) X V okX8 hT6 hZ7 q855 q856 q138 (by show _ ≤ kc; omega) (by show _ ≤ ks; omega) dX6_opens_9 (fun H V => ?_)
    exact wX6_opens_rX20_b12 X hr htE hf V (lv_sub hl [0] rfl) ⟨by omega, by omega⟩
theorem mX6_opens_rX20 {nf : Nat} (l : Launch) (D : va_G) (dA : Nat → ClassId) (s0 : Nat) {kc ks : Nat} {T : xT} {N : xT} {Z : Nat} {S : Nat} {I : xI} {L : xL} {R : xR} {x0 : Nat} {ro : (Nat ⊕ Unit)} {To : xT} {No : xT} {Zo : Nat} {So : Nat} {Io : xI} {Ro : xR} (hZ : Zo - Z ≤ kc) (hS : So - S ≤ ks) (hf : fX6_opens_rX20 nf (sv dA) T N Z S I R x0 = some (ro, To, No, Zo, So, Io, Ro)) : YMet l D dA s0 yX6_opens (ws_ yX6_opens cX6_opens 1 (none)) (4) (89) [.ref x0] T N Z I L R (rV ro) To No Zo Io L Ro kc ks :=
  y_start (own := RX6) rfl (by decide) (Nat.le_of_ble_eq_true rfl) (lv := [(0, .ref x0)]) rfl (fun p e s m below meth c ls X hr htE V hl => wX6_opens_rX20_e X hr htE hf V hl ⟨by omega, by omega⟩)
set_option maxHeartbeats 400000 in
set_option maxRecDepth 100000 in
theorem wX6_takes_rX20_e {nf : Nat} {p : Program} {l : Launch} {e : Env} {s : State} {m : MethodId} {args : Array Value} {below : List Frame} {meth : Method} {c : Code} {D : va_G} {dA : Nat → ClassId} {s0 : Nat} {T : xT} {N : xT} {Z : Nat} {I : xI} {L : xL} {R : xR} {H : Heap} {locs : List Loc} {ls : Array Slot} {x0 : Nat} {x1 : Nat} {ro : Int32} {Io : xI} (X : Cx D dA s0 p m c cX6_takes 3 s args RX6 meth) (hr : meth.sig.returnType = (some .boolean)) (hf : fX6_takes_rX20 nf (sv dA) T N I R x0 x1 = some (ro, Io)) (V : Iv D dA s0 s T N Z I L R H locs) (hl : lv_has ls 3 [(0, .ref x0), (1, .ref x1)]) : W p l e { frames := 6, cells := 0, slots := 0, locals := 128 } s m args below meth c H locs 0 0 (MQ below (xQ D dA s0 (some (.int ro)) T N Z Io L R) args s 0 0 (fun q => s0 ≤ q)) (F0 m 0 ls []) := by
  have hx := X.1.1
  have hb := X.1.2.1
  unfold fX6_takes_rX20 at hf
  refine lv_aload_n (pc := 0) hx hb dX6_takes_0 rfl (lv_at hl 0 rfl) ?_
  refine lv_aload_n (pc := 1) hx hb dX6_takes_1 rfl (lv_at hl 1 rfl) ?_
  replace hf := tg_s hf; obtain ⟨ht3, hf⟩ := hf
  replace hf := bs hf; obtain ⟨r1, hk_2, hf⟩ := hf
  refine x_callU (pc := 2) (As := [.ref x1]) (rest := []) X V (mX6_is_rX20 l D dA s0 hk_2) okX20 ht3 q916 q2222 q2224 q799 q133 q800 rfl hsX6_is_rX20 ⟨Nat.le_of_ble_eq_true rfl, Nat.le_of_ble_eq_true rfl⟩ rfl hl.1 rfl (Nat.le_of_ble_eq_true rfl) dX6_takes_2 ⟨Nat.zero_le _, Nat.zero_le _⟩ (fun H locs V => W.eq (g2 := F0 m 5 ls [.int r1]) rfl ?_)
  refine lv_istore_n (pc := 5) (lv' := [(2, .int r1), (0, .ref x0), (1, .ref x1)]) hx hb dX6_takes_5 rfl hl (by decide) rfl (fun ls hl => ?_)
  refine lv_iload_n (pc := 6) hx hb dX6_takes_6 rfl (lv_at hl 0 rfl) ?_
  refine lv_if_eq (pc := 7) (tgt := 14) hx hb dX6_takes_7 (by decide) (fun c4 => ?_) (fun c4 => ?_)
  · replace hf := if_t hf c4
    refine lv_iload_n (pc := 14) hx hb dX6_takes_14 rfl (lv_at hl 0 rfl) ?_
    replace hf := chk_s hf; obtain ⟨hz5, hf⟩ := hf
    cases hf
    exact x_zret (pc := 15) X V hr hz5 dX6_takes_15
  · replace hf := if_f hf c4
    refine lv_aload_n (pc := 10) hx hb dX6_takes_10 rfl (lv_at hl 1 rfl) ?_
    replace hf := bs hf; obtain ⟨I6, hk_7, hf⟩ := hf
    refine x_callU (pc := 11) (As := []) (rest := []) X V (mX6_next_rX20 l D dA s0 hk_7) okX20 ht3 q776 q778 q780 q777 q133 q781 rfl hsX6_next_rX20 ⟨Nat.le_of_ble_eq_true rfl, Nat.le_of_ble_eq_true rfl⟩ rfl hl.1 rfl (Nat.le_of_ble_eq_true rfl) dX6_takes_11 ⟨Nat.zero_le _, Nat.zero_le _⟩ (fun H locs V => W.eq (g2 := F0 m 14 ls []) rfl ?_)
    refine lv_iload_n (pc := 14) hx hb dX6_takes_14 rfl (lv_at hl 0 rfl) ?_
    replace hf := chk_s hf; obtain ⟨hz8, hf⟩ := hf
    cases hf
    exact x_zret (pc := 15) X V hr hz8 dX6_takes_15
theorem mX6_takes_rX20 {nf : Nat} (l : Launch) (D : va_G) (dA : Nat → ClassId) (s0 : Nat) {T : xT} {N : xT} {Z : Nat} {I : xI} {L : xL} {R : xR} {x0 : Nat} {x1 : Nat} {ro : Int32} {Io : xI} (hf : fX6_takes_rX20 nf (sv dA) T N I R x0 x1 = some (ro, Io)) : XMet l D dA s0 yX6_takes (ws_ yX6_takes cX6_takes 3 ((some .boolean))) (6) (128) [.ref x0, .ref x1] T N Z I L R (some (.int ro)) T N Z Io L R 0 0 :=
  x_start (own := RX6) rfl (by decide) (Nat.le_of_ble_eq_true rfl) (lv := [(0, .ref x0), (1, .ref x1)]) rfl (fun p e s m below meth c ls X hr hini V hl => wX6_takes_rX20_e X hr hf V hl)
set_option maxHeartbeats 400000 in
set_option maxRecDepth 100000 in
theorem zX6_need_rX20_b11 {nf : Nat} {dA : Nat → ClassId} {T : xT} {N : xT} {Z : Nat} {S : Nat} {I : xI} {R : xR}  {x0 : Nat} {z0 : Nat} {ro : (Nat ⊕ Unit)} {To : xT} {No : xT} {Zo : Nat} {So : Nat} {Io : xI} {Ro : xR}  (hf : fX6_need_rX20_b11 nf (sv dA) T N Z S I R x0 z0 = some (ro, To, No, Zo, So, Io, Ro)) : Z ≤ Zo ∧ S ≤ So := by
  unfold fX6_need_rX20_b11 at hf
  replace hf := tg_s hf; obtain ⟨ht1, hf⟩ := hf
  replace hf := b2s hf; obtain ⟨I2, R3, hk_4, hf⟩ := hf
  replace hf := tg_s hf; obtain ⟨ht5, hf⟩ := hf
  cases hf
  exact ⟨Nat.le_refl _, Nat.le_refl _⟩
set_option maxHeartbeats 400000 in
set_option maxRecDepth 100000 in
theorem wX6_need_rX20_b11 {nf : Nat} {kc ks : Nat} {cells slots : Nat} {p : Program} {l : Launch} {e : Env} {s : State} {m : MethodId} {args : Array Value} {below : List Frame} {meth : Method} {c : Code} {D : va_G} {dA : Nat → ClassId} {s0 : Nat} {T : xT} {N : xT} {Z : Nat} {S : Nat} {I : xI} {L : xL} {R : xR} {H : Heap} {locs : List Loc} {ls : Array Slot}  {x0 : Nat} {z0 : Nat} {ro : (Nat ⊕ Unit)} {To : xT} {No : xT} {Zo : Nat} {So : Nat} {Io : xI} {Ro : xR} (X : Cx D dA s0 p m c cX6_need 2 s args RX6 meth) (hr : meth.sig.returnType = none) (htE : c.exceptionTable.toList = [])   (hf : fX6_need_rX20_b11 nf (sv dA) T N Z S I R x0 z0 = some (ro, To, No, Zo, So, Io, Ro)) (V : Iv D dA s0 s T N Z I L R H locs) (hl : lv_has ls 2 [(0, .ref x0)]) (hB : cells + (Zo - Z) ≤ kc ∧ slots + (So - S) ≤ ks) : W p l e { frames := 7, cells := kc, slots := ks, locals := 150 } s m args below meth c H locs cells slots (vx_MQ below (yQ D dA s0 (rV ro) To No Zo Io L Ro) (yX D dA s0 (rV ro) To No Zo Io L Ro) args s kc ks (fun q => s0 ≤ q)) (F0 m 11 ls [.ref z0]) := by
  have hx := X.1.1
  have hb := X.1.2.1
  unfold fX6_need_rX20_b11 at hf
  refine lv_dup (pc := 11) hx hb dX6_need_11 rfl ?_
  refine lv_aload_n (pc := 12) hx hb dX6_need_12 rfl (lv_at hl 0 rfl) ?_
  replace hf := tg_s hf; obtain ⟨ht1, hf⟩ := hf
  refine x_get (pc := 13) X V okX20 ht1 3 (by decide) q744 (v := .int (I x0 3)) rfl dX6_need_13 ?_
  replace hf := b2s hf; obtain ⟨I2, R3, hk_4, hf⟩ := hf
  refine x_callI0 (pc := 16) (As := [.int (I x0 3)]) (rest := [.ref z0]) X V (mX8_init l D dA s0 hk_4) q864 q865 q138 q866 rfl hsX8_init ⟨Nat.le_of_ble_eq_true rfl, Nat.le_of_ble_eq_true rfl⟩ rfl hl.1 rfl (Nat.le_of_ble_eq_true rfl) dX6_need_16 ⟨by show cells ≤ kc; omega, by show slots ≤ ks; omega⟩ (fun H locs V => W.eq (g2 := F0 m 19 ls [.ref z0]) rfl ?_)
  replace hf := tg_s hf; obtain ⟨ht5, hf⟩ := hf
  refine vx_athrow (pc := 19) hx hb dX6_need_19 ?_
  cases hf
  exact y_out X V htE okX8 ht5 (by omega) (by omega)
set_option maxHeartbeats 400000 in
set_option maxRecDepth 100000 in
theorem zX6_need_rX20 {nf : Nat} {dA : Nat → ClassId} {T : xT} {N : xT} {Z : Nat} {S : Nat} {I : xI} {R : xR} {x0 : Nat} {x1 : Nat} {ro : (Nat ⊕ Unit)} {To : xT} {No : xT} {Zo : Nat} {So : Nat} {Io : xI} {Ro : xR} (hf : fX6_need_rX20 nf (sv dA) T N Z S I R x0 x1 = some (ro, To, No, Zo, So, Io, Ro)) : Z ≤ Zo ∧ S ≤ So := by
  unfold fX6_need_rX20 at hf
  replace hf := tg_s hf; obtain ⟨ht4, hf⟩ := hf
  replace hf := b2s hf; obtain ⟨r1, I2, hk_3, hf⟩ := hf
  rcases (Decidable.em (r1 = (ii 0))).symm with c5 | c5
  · replace hf := if_f hf c5
    cases hf
    exact ⟨Nat.le_refl _, Nat.le_refl _⟩
  · replace hf := if_t hf c5
    replace hf := nm_s hf; obtain ⟨T6, hT6, hf⟩ := hf
    replace hf := nm_s hf; obtain ⟨Z7, hZ7, hf⟩ := hf
    replace hf := nm_s hf; obtain ⟨S8, hS8, hf⟩ := hf
    have hm := zX6_need_rX20_b11 hf
    exact ⟨by omega, by omega⟩
set_option maxHeartbeats 400000 in
set_option maxRecDepth 100000 in
theorem wX6_need_rX20_e {nf : Nat} {kc ks : Nat} {cells slots : Nat} {p : Program} {l : Launch} {e : Env} {s : State} {m : MethodId} {args : Array Value} {below : List Frame} {meth : Method} {c : Code} {D : va_G} {dA : Nat → ClassId} {s0 : Nat} {T : xT} {N : xT} {Z : Nat} {S : Nat} {I : xI} {L : xL} {R : xR} {H : Heap} {locs : List Loc} {ls : Array Slot} {x0 : Nat} {x1 : Nat} {ro : (Nat ⊕ Unit)} {To : xT} {No : xT} {Zo : Nat} {So : Nat} {Io : xI} {Ro : xR} (X : Cx D dA s0 p m c cX6_need 2 s args RX6 meth) (hr : meth.sig.returnType = none) (htE : c.exceptionTable.toList = []) (hf : fX6_need_rX20 nf (sv dA) T N Z S I R x0 x1 = some (ro, To, No, Zo, So, Io, Ro)) (V : Iv D dA s0 s T N Z I L R H locs) (hl : lv_has ls 2 [(0, .ref x0), (1, .ref x1)]) (hB : cells + (Zo - Z) ≤ kc ∧ slots + (So - S) ≤ ks) : W p l e { frames := 7, cells := kc, slots := ks, locals := 150 } s m args below meth c H locs cells slots (vx_MQ below (yQ D dA s0 (rV ro) To No Zo Io L Ro) (yX D dA s0 (rV ro) To No Zo Io L Ro) args s kc ks (fun q => s0 ≤ q)) (F0 m 0 ls []) := by
  have hx := X.1.1
  have hb := X.1.2.1
  unfold fX6_need_rX20 at hf
  refine lv_aload_n (pc := 0) hx hb dX6_need_0 rfl (lv_at hl 0 rfl) ?_
  refine lv_aload_n (pc := 1) hx hb dX6_need_1 rfl (lv_at hl 1 rfl) ?_
  replace hf := tg_s hf; obtain ⟨ht4, hf⟩ := hf
  replace hf := b2s hf; obtain ⟨r1, I2, hk_3, hf⟩ := hf
  refine x_callU (pc := 2) (As := [.ref x1]) (rest := []) X V (mX6_takes_rX20 l D dA s0 hk_3) okX20 ht4 q931 q933 q935 q932 q133 q936 rfl hsX6_takes_rX20 ⟨Nat.le_of_ble_eq_true rfl, Nat.le_of_ble_eq_true rfl⟩ rfl hl.1 rfl (Nat.le_of_ble_eq_true rfl) dX6_need_2 ⟨by show cells ≤ kc; omega, by show slots ≤ ks; omega⟩ (fun H locs V => W.eq (g2 := F0 m 5 ls [.int r1]) rfl ?_)
  refine lv_if_ne (pc := 5) (tgt := 20) hx hb dX6_need_5 (by decide) (fun c5 => ?_) (fun c5 => ?_)
  · replace hf := if_f hf c5
    cases hf
    exact y_vret (pc := 20) X V hr (by omega) (by omega) dX6_need_20
  · replace hf := if_t hf c5
    replace hf := nm_s hf; obtain ⟨T6, hT6, hf⟩ := hf
    replace hf := nm_s hf; obtain ⟨Z7, hZ7, hf⟩ := hf
    replace hf := nm_s hf; obtain ⟨S8, hS8, hf⟩ := hf
    have hm := zX6_need_rX20_b11 hf
    refine x_new (pc := 8) X V okX8 hT6 hZ7 q855 q856 q138 (by show _ ≤ kc; omega) (by show _ ≤ ks; omega) dX6_need_8 (fun H V => ?_)
    exact wX6_need_rX20_b11 X hr htE hf V (lv_sub hl [0] rfl) ⟨by omega, by omega⟩
theorem mX6_need_rX20 {nf : Nat} (l : Launch) (D : va_G) (dA : Nat → ClassId) (s0 : Nat) {kc ks : Nat} {T : xT} {N : xT} {Z : Nat} {S : Nat} {I : xI} {L : xL} {R : xR} {x0 : Nat} {x1 : Nat} {ro : (Nat ⊕ Unit)} {To : xT} {No : xT} {Zo : Nat} {So : Nat} {Io : xI} {Ro : xR} (hZ : Zo - Z ≤ kc) (hS : So - S ≤ ks) (hf : fX6_need_rX20 nf (sv dA) T N Z S I R x0 x1 = some (ro, To, No, Zo, So, Io, Ro)) : YMet l D dA s0 yX6_need (ws_ yX6_need cX6_need 2 (none)) (7) (150) [.ref x0, .ref x1] T N Z I L R (rV ro) To No Zo Io L Ro kc ks :=
  y_start (own := RX6) rfl (by decide) (Nat.le_of_ble_eq_true rfl) (lv := [(0, .ref x0), (1, .ref x1)]) rfl (fun p e s m below meth c ls X hr htE V hl => wX6_need_rX20_e X hr htE hf V hl ⟨by omega, by omega⟩)
set_option maxHeartbeats 400000 in
set_option maxRecDepth 100000 in
theorem zX6_part_rX20_b96 {nf : Nat} {rc : (Nat → Option Nat) → xT → xT → Nat → Nat → xI → xL → xR → Nat → Option ((Nat ⊕ Nat) × xT × xT × Nat × Nat × xI × xR)} {dA : Nat → ClassId} {T : xT} {N : xT} {Z : Nat} {S : Nat} {I : xI} {L : xL} {R : xR}  {x1 : Int32} {z0 : Nat} {ro : (Nat ⊕ Nat)} {To : xT} {No : xT} {Zo : Nat} {So : Nat} {Io : xI} {Ro : xR} (hrz : Mon_X6_sum_rX20 rc)  (hf : fX6_part_rX20_b96 nf rc (sv dA) T N Z S I L R x1 z0 = some (ro, To, No, Zo, So, Io, Ro)) : Z ≤ Zo ∧ S ≤ So := by
  unfold fX6_part_rX20_b96 at hf
  replace hf := bs hf; obtain ⟨I1, hk_2, hf⟩ := hf
  cases hf
  exact ⟨Nat.le_refl _, Nat.le_refl _⟩
set_option maxHeartbeats 400000 in
set_option maxRecDepth 100000 in
theorem wX6_part_rX20_b96 {nf : Nat} {fd ld : Nat} {rc : (Nat → Option Nat) → xT → xT → Nat → Nat → xI → xL → xR → Nat → Option ((Nat ⊕ Nat) × xT × xT × Nat × Nat × xI × xR)} {kc ks : Nat} {cells slots : Nat} {p : Program} {l : Launch} {e : Env} {s : State} {m : MethodId} {args : Array Value} {below : List Frame} {meth : Method} {c : Code} {D : va_G} {dA : Nat → ClassId} {s0 : Nat} {T : xT} {N : xT} {Z : Nat} {S : Nat} {I : xI} {L : xL} {R : xR} {H : Heap} {locs : List Loc} {ls : Array Slot}  {x1 : Int32} {z0 : Nat} {ro : (Nat ⊕ Nat)} {To : xT} {No : xT} {Zo : Nat} {So : Nat} {Io : xI} {Ro : xR} (X : Cx D dA s0 p m c cX6_part 2 s args RX6 meth) (hr : meth.sig.returnType = (some (.object "LostLanes$Sum"))) (htE : c.exceptionTable.toList = []) (hrc : Con_X6_sum_rX20 l D dA s0 fd ld rc) (hrz : Mon_X6_sum_rX20 rc)    (hf : fX6_part_rX20_b96 nf rc (sv dA) T N Z S I L R x1 z0 = some (ro, To, No, Zo, So, Io, Ro)) (V : Iv D dA s0 s T N Z I L R H locs) (hl : lv_has ls 2 [(1, .int x1)]) (hB : cells + (Zo - Z) ≤ kc ∧ slots + (So - S) ≤ ks) : W p l e { frames := fd + 8, cells := kc, slots := ks, locals := ld + 171 } s m args below meth c H locs cells slots (vx_MQ below (yQ D dA s0 (rA_ ro) To No Zo Io L Ro) (yX D dA s0 (rA_ ro) To No Zo Io L Ro) args s kc ks (fun q => s0 ≤ q)) (F0 m 96 ls [.ref z0]) := by
  have hx := X.1.1
  have hb := X.1.2.1
  unfold fX6_part_rX20_b96 at hf
  refine lv_dup (pc := 96) hx hb dX6_part_96 rfl ?_
  refine lv_iload_n (pc := 97) hx hb dX6_part_97 rfl (lv_at hl 0 rfl) ?_
  replace hf := bs hf; obtain ⟨I1, hk_2, hf⟩ := hf
  refine x_callI0 (pc := 98) (As := [.int x1]) (rest := [.ref z0]) X V (mX12_init l D dA s0 hk_2) q1002 q1003 q142 q1004 rfl hsX12_init ⟨by dsimp only; omega, by dsimp only; omega⟩ rfl hl.1 rfl (Nat.le_of_ble_eq_true rfl) dX6_part_98 ⟨by show cells ≤ kc; omega, by show slots ≤ ks; omega⟩ (fun H locs V => W.eq (g2 := F0 m 101 ls [.ref z0]) rfl ?_)
  cases hf
  exact y_aret (pc := 101) X V hr (by omega) (by omega) (Or.inl ⟨_, rfl⟩) dX6_part_101
set_option maxHeartbeats 400000 in
set_option maxRecDepth 100000 in
theorem zX6_part_rX20_b84 {nf : Nat} {rc : (Nat → Option Nat) → xT → xT → Nat → Nat → xI → xL → xR → Nat → Option ((Nat ⊕ Nat) × xT × xT × Nat × Nat × xI × xR)} {dA : Nat → ClassId} {T : xT} {N : xT} {Z : Nat} {S : Nat} {I : xI} {L : xL} {R : xR}  {x0 : Nat} {z0 : Nat} {ro : (Nat ⊕ Nat)} {To : xT} {No : xT} {Zo : Nat} {So : Nat} {Io : xI} {Ro : xR} (hrz : Mon_X6_sum_rX20 rc)  (hf : fX6_part_rX20_b84 nf rc (sv dA) T N Z S I L R x0 z0 = some (ro, To, No, Zo, So, Io, Ro)) : Z ≤ Zo ∧ S ≤ So := by
  unfold fX6_part_rX20_b84 at hf
  replace hf := tg_s hf; obtain ⟨ht1, hf⟩ := hf
  replace hf := b2s hf; obtain ⟨I2, R3, hk_4, hf⟩ := hf
  replace hf := tg_s hf; obtain ⟨ht5, hf⟩ := hf
  cases hf
  exact ⟨Nat.le_refl _, Nat.le_refl _⟩
set_option maxHeartbeats 400000 in
set_option maxRecDepth 100000 in
theorem wX6_part_rX20_b84 {nf : Nat} {fd ld : Nat} {rc : (Nat → Option Nat) → xT → xT → Nat → Nat → xI → xL → xR → Nat → Option ((Nat ⊕ Nat) × xT × xT × Nat × Nat × xI × xR)} {kc ks : Nat} {cells slots : Nat} {p : Program} {l : Launch} {e : Env} {s : State} {m : MethodId} {args : Array Value} {below : List Frame} {meth : Method} {c : Code} {D : va_G} {dA : Nat → ClassId} {s0 : Nat} {T : xT} {N : xT} {Z : Nat} {S : Nat} {I : xI} {L : xL} {R : xR} {H : Heap} {locs : List Loc} {ls : Array Slot}  {x0 : Nat} {z0 : Nat} {ro : (Nat ⊕ Nat)} {To : xT} {No : xT} {Zo : Nat} {So : Nat} {Io : xI} {Ro : xR} (X : Cx D dA s0 p m c cX6_part 2 s args RX6 meth) (hr : meth.sig.returnType = (some (.object "LostLanes$Sum"))) (htE : c.exceptionTable.toList = []) (hrc : Con_X6_sum_rX20 l D dA s0 fd ld rc) (hrz : Mon_X6_sum_rX20 rc)    (hf : fX6_part_rX20_b84 nf rc (sv dA) T N Z S I L R x0 z0 = some (ro, To, No, Zo, So, Io, Ro)) (V : Iv D dA s0 s T N Z I L R H locs) (hl : lv_has ls 2 [(0, .ref x0)]) (hB : cells + (Zo - Z) ≤ kc ∧ slots + (So - S) ≤ ks) : W p l e { frames := fd + 8, cells := kc, slots := ks, locals := ld + 171 } s m args below meth c H locs cells slots (vx_MQ below (yQ D dA s0 (rA_ ro) To No Zo Io L Ro) (yX D dA s0 (rA_ ro) To No Zo Io L Ro) args s kc ks (fun q => s0 ≤ q)) (F0 m 84 ls [.ref z0]) := by
  have hx := X.1.1
  have hb := X.1.2.1
  unfold fX6_part_rX20_b84 at hf
  refine lv_dup (pc := 84) hx hb dX6_part_84 rfl ?_
  refine lv_aload_n (pc := 85) hx hb dX6_part_85 rfl (lv_at hl 0 rfl) ?_
  replace hf := tg_s hf; obtain ⟨ht1, hf⟩ := hf
  refine x_get (pc := 86) X V okX20 ht1 3 (by decide) q744 (v := .int (I x0 3)) rfl dX6_part_86 ?_
  replace hf := b2s hf; obtain ⟨I2, R3, hk_4, hf⟩ := hf
  refine x_callI0 (pc := 89) (As := [.int (I x0 3)]) (rest := [.ref z0]) X V (mX8_init l D dA s0 hk_4) q864 q865 q138 q866 rfl hsX8_init ⟨by dsimp only; omega, by dsimp only; omega⟩ rfl hl.1 rfl (Nat.le_of_ble_eq_true rfl) dX6_part_89 ⟨by show cells ≤ kc; omega, by show slots ≤ ks; omega⟩ (fun H locs V => W.eq (g2 := F0 m 92 ls [.ref z0]) rfl ?_)
  replace hf := tg_s hf; obtain ⟨ht5, hf⟩ := hf
  refine vx_athrow (pc := 92) hx hb dX6_part_92 ?_
  cases hf
  exact y_out X V htE okX8 ht5 (by omega) (by omega)
set_option maxHeartbeats 400000 in
set_option maxRecDepth 100000 in
theorem zX6_part_rX20_b75 {nf : Nat} {rc : (Nat → Option Nat) → xT → xT → Nat → Nat → xI → xL → xR → Nat → Option ((Nat ⊕ Nat) × xT × xT × Nat × Nat × xI × xR)} {dA : Nat → ClassId} {T : xT} {N : xT} {Z : Nat} {S : Nat} {I : xI} {L : xL} {R : xR}  {x0 : Nat} {z0 : Int32} {ro : (Nat ⊕ Nat)} {To : xT} {No : xT} {Zo : Nat} {So : Nat} {Io : xI} {Ro : xR} (hrz : Mon_X6_sum_rX20 rc)  (hf : fX6_part_rX20_b75 nf rc (sv dA) T N Z S I L R x0 z0 = some (ro, To, No, Zo, So, Io, Ro)) : Z ≤ Zo ∧ S ≤ So := by
  unfold fX6_part_rX20_b75 at hf
  rcases (Decidable.em (z0 = (-1 : Int32))).symm with c1 | c1
  · replace hf := if_f hf c1
    replace hf := nm_s hf; obtain ⟨T2, hT2, hf⟩ := hf
    replace hf := nm_s hf; obtain ⟨Z3, hZ3, hf⟩ := hf
    replace hf := nm_s hf; obtain ⟨S4, hS4, hf⟩ := hf
    have hm := zX6_part_rX20_b96 hrz hf
    exact ⟨by omega, by omega⟩
  · replace hf := if_t hf c1
    replace hf := nm_s hf; obtain ⟨T5, hT5, hf⟩ := hf
    replace hf := nm_s hf; obtain ⟨Z6, hZ6, hf⟩ := hf
    replace hf := nm_s hf; obtain ⟨S7, hS7, hf⟩ := hf
    have hm := zX6_part_rX20_b84 hrz hf
    exact ⟨by omega, by omega⟩
set_option maxHeartbeats 400000 in
set_option maxRecDepth 100000 in
theorem wX6_part_rX20_b75 {nf : Nat} {fd ld : Nat} {rc : (Nat → Option Nat) → xT → xT → Nat → Nat → xI → xL → xR → Nat → Option ((Nat ⊕ Nat) × xT × xT × Nat × Nat × xI × xR)} {kc ks : Nat} {cells slots : Nat} {p : Program} {l : Launch} {e : Env} {s : State} {m : MethodId} {args : Array Value} {below : List Frame} {meth : Method} {c : Code} {D : va_G} {dA : Nat → ClassId} {s0 : Nat} {T : xT} {N : xT} {Z : Nat} {S : Nat} {I : xI} {L : xL} {R : xR} {H : Heap} {locs : List Loc} {ls : Array Slot}  {x0 : Nat} {z0 : Int32} {ro : (Nat ⊕ Nat)} {To : xT} {No : xT} {Zo : Nat} {So : Nat} {Io : xI} {Ro : xR} (X : Cx D dA s0 p m c cX6_part 2 s args RX6 meth) (hr : meth.sig.returnType = (some (.object "LostLanes$Sum"))) (htE : c.exceptionTable.toList = []) (hrc : Con_X6_sum_rX20 l D dA s0 fd ld rc) (hrz : Mon_X6_sum_rX20 rc)    (hf : fX6_part_rX20_b75 nf rc (sv dA) T N Z S I L R x0 z0 = some (ro, To, No, Zo, So, Io, Ro)) (V : Iv D dA s0 s T N Z I L R H locs) (hl : lv_has ls 2 [(0, .ref x0)]) (hB : cells + (Zo - Z) ≤ kc ∧ slots + (So - S) ≤ ks) : W p l e { frames := fd + 8, cells := kc, slots := ks, locals := ld + 171 } s m args below meth c H locs cells slots (vx_MQ below (yQ D dA s0 (rA_ ro) To No Zo Io L Ro) (yX D dA s0 (rA_ ro) To No Zo Io L Ro) args s kc ks (fun q => s0 ≤ q)) (F0 m 75 ls [.int z0]) := by
  have hx := X.1.1
  have hb := X.1.2.1
  unfold fX6_part_rX20_b75 at hf
  refine lv_istore_n (pc := 75) (lv' := [(1, .int z0), (0, .ref x0)]) hx hb dX6_part_75 rfl hl (by decide) rfl (fun ls hl => ?_)
  refine lv_iload_n (pc := 76) hx hb dX6_part_76 rfl (lv_at hl 0 rfl) ?_
  refine lv_iconst (pc := 77) (v := (-1 : Int32)) hx hb dX6_part_77 (by decide) ?_
  refine lv_icmp_ne (pc := 78) (tgt := 93) hx hb dX6_part_78 (by decide) (fun c1 => ?_) (fun c1 => ?_)
  · replace hf := if_f hf c1
    replace hf := nm_s hf; obtain ⟨T2, hT2, hf⟩ := hf
    replace hf := nm_s hf; obtain ⟨Z3, hZ3, hf⟩ := hf
    replace hf := nm_s hf; obtain ⟨S4, hS4, hf⟩ := hf
    have hm := zX6_part_rX20_b96 hrz hf
    refine x_new (pc := 93) X V okX12 hT2 hZ3 q1000 q1001 q142 (by show _ ≤ kc; omega) (by show _ ≤ ks; omega) dX6_part_93 (fun H V => ?_)
    exact wX6_part_rX20_b96 X hr htE hrc hrz hf V (lv_sub hl [0] rfl) ⟨by omega, by omega⟩
  · replace hf := if_t hf c1
    replace hf := nm_s hf; obtain ⟨T5, hT5, hf⟩ := hf
    replace hf := nm_s hf; obtain ⟨Z6, hZ6, hf⟩ := hf
    replace hf := nm_s hf; obtain ⟨S7, hS7, hf⟩ := hf
    have hm := zX6_part_rX20_b84 hrz hf
    refine x_new (pc := 81) X V okX8 hT5 hZ6 q855 q856 q138 (by show _ ≤ kc; omega) (by show _ ≤ ks; omega) dX6_part_81 (fun H V => ?_)
    exact wX6_part_rX20_b84 X hr htE hrc hrz hf V (lv_sub hl [1] rfl) ⟨by omega, by omega⟩
set_option maxHeartbeats 400000 in
set_option maxRecDepth 100000 in
theorem zX6_part_rX20_b67 {nf : Nat} {rc : (Nat → Option Nat) → xT → xT → Nat → Nat → xI → xL → xR → Nat → Option ((Nat ⊕ Nat) × xT × xT × Nat × Nat × xI × xR)} {dA : Nat → ClassId} {T : xT} {N : xT} {Z : Nat} {S : Nat} {I : xI} {L : xL} {R : xR}  {z0 : Nat} {z1 : Nat} {z2 : Int32} {ro : (Nat ⊕ Nat)} {To : xT} {No : xT} {Zo : Nat} {So : Nat} {Io : xI} {Ro : xR} (hrz : Mon_X6_sum_rX20 rc)  (hf : fX6_part_rX20_b67 nf rc (sv dA) T N Z S I L R z0 z1 z2 = some (ro, To, No, Zo, So, Io, Ro)) : Z ≤ Zo ∧ S ≤ So := by
  unfold fX6_part_rX20_b67 at hf
  replace hf := bs hf; obtain ⟨I1, hk_2, hf⟩ := hf
  cases hf
  exact ⟨Nat.le_refl _, Nat.le_refl _⟩
set_option maxHeartbeats 400000 in
set_option maxRecDepth 100000 in
theorem wX6_part_rX20_b67 {nf : Nat} {fd ld : Nat} {rc : (Nat → Option Nat) → xT → xT → Nat → Nat → xI → xL → xR → Nat → Option ((Nat ⊕ Nat) × xT × xT × Nat × Nat × xI × xR)} {kc ks : Nat} {cells slots : Nat} {p : Program} {l : Launch} {e : Env} {s : State} {m : MethodId} {args : Array Value} {below : List Frame} {meth : Method} {c : Code} {D : va_G} {dA : Nat → ClassId} {s0 : Nat} {T : xT} {N : xT} {Z : Nat} {S : Nat} {I : xI} {L : xL} {R : xR} {H : Heap} {locs : List Loc} {ls : Array Slot}  {z0 : Nat} {z1 : Nat} {z2 : Int32} {ro : (Nat ⊕ Nat)} {To : xT} {No : xT} {Zo : Nat} {So : Nat} {Io : xI} {Ro : xR} (X : Cx D dA s0 p m c cX6_part 2 s args RX6 meth) (hr : meth.sig.returnType = (some (.object "LostLanes$Sum"))) (htE : c.exceptionTable.toList = []) (hrc : Con_X6_sum_rX20 l D dA s0 fd ld rc) (hrz : Mon_X6_sum_rX20 rc)    (hf : fX6_part_rX20_b67 nf rc (sv dA) T N Z S I L R z0 z1 z2 = some (ro, To, No, Zo, So, Io, Ro)) (V : Iv D dA s0 s T N Z I L R H locs) (hl : lv_has ls 2 []) (hB : cells + (Zo - Z) ≤ kc ∧ slots + (So - S) ≤ ks) : W p l e { frames := fd + 8, cells := kc, slots := ks, locals := ld + 171 } s m args below meth c H locs cells slots (vx_MQ below (yQ D dA s0 (rA_ ro) To No Zo Io L Ro) (yX D dA s0 (rA_ ro) To No Zo Io L Ro) args s kc ks (fun q => s0 ≤ q)) (F0 m 67 ls [.int z2, .ref z1, .ref z0]) := by
  have hx := X.1.1
  have hb := X.1.2.1
  unfold fX6_part_rX20_b67 at hf
  replace hf := bs hf; obtain ⟨I1, hk_2, hf⟩ := hf
  refine x_callI0 (pc := 67) (As := [.int z2]) (rest := [.ref z0]) X V (mX11_init l D dA s0 hk_2) q951 q952 q141 q953 rfl hsX11_init ⟨by dsimp only; omega, by dsimp only; omega⟩ rfl hl.1 rfl (Nat.le_of_ble_eq_true rfl) dX6_part_67 ⟨by show cells ≤ kc; omega, by show slots ≤ ks; omega⟩ (fun H locs V => W.eq (g2 := F0 m 70 ls [.ref z0]) rfl ?_)
  cases hf
  exact y_aret (pc := 70) X V hr (by omega) (by omega) (Or.inl ⟨_, rfl⟩) dX6_part_70
set_option maxHeartbeats 400000 in
set_option maxRecDepth 100000 in
theorem zX6_part_rX20_b58 {nf : Nat} {rc : (Nat → Option Nat) → xT → xT → Nat → Nat → xI → xL → xR → Nat → Option ((Nat ⊕ Nat) × xT × xT × Nat × Nat × xI × xR)} {dA : Nat → ClassId} {T : xT} {N : xT} {Z : Nat} {S : Nat} {I : xI} {L : xL} {R : xR}  {x0 : Nat} {z0 : Nat} {ro : (Nat ⊕ Nat)} {To : xT} {No : xT} {Zo : Nat} {So : Nat} {Io : xI} {Ro : xR} (hrz : Mon_X6_sum_rX20 rc)  (hf : fX6_part_rX20_b58 nf rc (sv dA) T N Z S I L R x0 z0 = some (ro, To, No, Zo, So, Io, Ro)) : Z ≤ Zo ∧ S ≤ So := by
  unfold fX6_part_rX20_b58 at hf
  replace hf := tg_s hf; obtain ⟨ht9, hf⟩ := hf
  replace hf := b7s hf; obtain ⟨r1, T2, N3, Z4, S5, I6, R7, hk_8, hf⟩ := hf
  have hm_hk_8 := zX6_number_rX20 hk_8
  replace hf := xc_s hf; rcases hf with ⟨a10, hr_12, hf⟩ | ⟨v11, hr_12, hf⟩
  · skip
    replace hf := tg_s hf; obtain ⟨ht13, hf⟩ := hf
    cases hf
    exact ⟨by omega, by omega⟩
  · skip
    have hm := zX6_part_rX20_b67 hrz hf
    exact ⟨by omega, by omega⟩
set_option maxHeartbeats 400000 in
set_option maxRecDepth 100000 in
theorem wX6_part_rX20_b58 {nf : Nat} {fd ld : Nat} {rc : (Nat → Option Nat) → xT → xT → Nat → Nat → xI → xL → xR → Nat → Option ((Nat ⊕ Nat) × xT × xT × Nat × Nat × xI × xR)} {kc ks : Nat} {cells slots : Nat} {p : Program} {l : Launch} {e : Env} {s : State} {m : MethodId} {args : Array Value} {below : List Frame} {meth : Method} {c : Code} {D : va_G} {dA : Nat → ClassId} {s0 : Nat} {T : xT} {N : xT} {Z : Nat} {S : Nat} {I : xI} {L : xL} {R : xR} {H : Heap} {locs : List Loc} {ls : Array Slot}  {x0 : Nat} {z0 : Nat} {ro : (Nat ⊕ Nat)} {To : xT} {No : xT} {Zo : Nat} {So : Nat} {Io : xI} {Ro : xR} (X : Cx D dA s0 p m c cX6_part 2 s args RX6 meth) (hr : meth.sig.returnType = (some (.object "LostLanes$Sum"))) (htE : c.exceptionTable.toList = []) (hrc : Con_X6_sum_rX20 l D dA s0 fd ld rc) (hrz : Mon_X6_sum_rX20 rc)    (hf : fX6_part_rX20_b58 nf rc (sv dA) T N Z S I L R x0 z0 = some (ro, To, No, Zo, So, Io, Ro)) (V : Iv D dA s0 s T N Z I L R H locs) (hl : lv_has ls 2 [(0, .ref x0)]) (hB : cells + (Zo - Z) ≤ kc ∧ slots + (So - S) ≤ ks) : W p l e { frames := fd + 8, cells := kc, slots := ks, locals := ld + 171 } s m args below meth c H locs cells slots (vx_MQ below (yQ D dA s0 (rA_ ro) To No Zo Io L Ro) (yX D dA s0 (rA_ ro) To No Zo Io L Ro) args s kc ks (fun q => s0 ≤ q)) (F0 m 58 ls [.ref z0]) := by
  have hx := X.1.1
  have hb := X.1.2.1
  unfold fX6_part_rX20_b58 at hf
  refine lv_dup (pc := 58) hx hb dX6_part_58 rfl ?_
  refine lv_aload_n (pc := 59) hx hb dX6_part_59 rfl (lv_at hl 0 rfl) ?_
  refine lv_iconst (pc := 60) (v := (ii 0)) hx hb dX6_part_60 (by decide) ?_
  refine lv_sipush (pc := 61) (v := (ii 1000)) hx hb dX6_part_61 (by decide) ?_
  replace hf := tg_s hf; obtain ⟨ht9, hf⟩ := hf
  replace hf := b7s hf; obtain ⟨r1, T2, N3, Z4, S5, I6, R7, hk_8, hf⟩ := hf
  have hm_hk_8 := zX6_number_rX20 hk_8
  replace hf := xc_s hf; rcases hf with ⟨a10, hr_12, hf⟩ | ⟨v11, hr_12, hf⟩
  · rw [hr_12] at hk_8
    replace hf := tg_s hf; obtain ⟨ht13, hf⟩ := hf
    have hzE : Z4 = Zo := by cases hf; rfl
    have hsE : S5 = So := by cases hf; rfl
    refine y_afterX (y_runU (pc := 64) (As := [.int (ii 0), .int (ii 1000)]) (rest := [.ref z0, .ref z0]) X V (mX6_number_rX20 l D dA s0 (kc := Z4 - Z) (ks := S5 - S) (Nat.le_refl _) (Nat.le_refl _) hk_8) okX20 ht9 q945 q947 q949 q946 q133 q950 rfl hsX6_number_rX20 ⟨by dsimp only; omega, by dsimp only; omega⟩ rfl hl.1 rfl (Nat.le_of_ble_eq_true rfl) dX6_part_64 ⟨by show _ ≤ kc; omega, by show _ ≤ ks; omega⟩) V (fun H locs V => ?_)
    cases hf
    exact y_out X V htE okX8 ht13 (by omega) (by omega)
  · rw [hr_12] at hk_8
    have hm := zX6_part_rX20_b67 hrz hf
    refine y_afterR (y_runU (pc := 64) (As := [.int (ii 0), .int (ii 1000)]) (rest := [.ref z0, .ref z0]) X V (mX6_number_rX20 l D dA s0 (kc := Z4 - Z) (ks := S5 - S) (Nat.le_refl _) (Nat.le_refl _) hk_8) okX20 ht9 q945 q947 q949 q946 q133 q950 rfl hsX6_number_rX20 ⟨by dsimp only; omega, by dsimp only; omega⟩ rfl hl.1 rfl (Nat.le_of_ble_eq_true rfl) dX6_part_64 ⟨by show _ ≤ kc; omega, by show _ ≤ ks; omega⟩) V (fun H locs V => W.eq (g2 := F0 m 67 ls [.int v11, .ref z0, .ref z0]) rfl ?_)
    exact wX6_part_rX20_b67 X hr htE hrc hrz hf V (lv_sub hl [] rfl) ⟨by omega, by omega⟩
set_option maxHeartbeats 400000 in
set_option maxRecDepth 100000 in
theorem zX6_part_rX20_b55 {nf : Nat} {rc : (Nat → Option Nat) → xT → xT → Nat → Nat → xI → xL → xR → Nat → Option ((Nat ⊕ Nat) × xT × xT × Nat × Nat × xI × xR)} {dA : Nat → ClassId} {T : xT} {N : xT} {Z : Nat} {S : Nat} {I : xI} {L : xL} {R : xR}  {x0 : Nat} {ro : (Nat ⊕ Nat)} {To : xT} {No : xT} {Zo : Nat} {So : Nat} {Io : xI} {Ro : xR} (hrz : Mon_X6_sum_rX20 rc)  (hf : fX6_part_rX20_b55 nf rc (sv dA) T N Z S I L R x0 = some (ro, To, No, Zo, So, Io, Ro)) : Z ≤ Zo ∧ S ≤ So := by
  unfold fX6_part_rX20_b55 at hf
  replace hf := nm_s hf; obtain ⟨T1, hT1, hf⟩ := hf
  replace hf := nm_s hf; obtain ⟨Z2, hZ2, hf⟩ := hf
  replace hf := nm_s hf; obtain ⟨S3, hS3, hf⟩ := hf
  have hm := zX6_part_rX20_b58 hrz hf
  exact ⟨by omega, by omega⟩
set_option maxHeartbeats 400000 in
set_option maxRecDepth 100000 in
theorem wX6_part_rX20_b55 {nf : Nat} {fd ld : Nat} {rc : (Nat → Option Nat) → xT → xT → Nat → Nat → xI → xL → xR → Nat → Option ((Nat ⊕ Nat) × xT × xT × Nat × Nat × xI × xR)} {kc ks : Nat} {cells slots : Nat} {p : Program} {l : Launch} {e : Env} {s : State} {m : MethodId} {args : Array Value} {below : List Frame} {meth : Method} {c : Code} {D : va_G} {dA : Nat → ClassId} {s0 : Nat} {T : xT} {N : xT} {Z : Nat} {S : Nat} {I : xI} {L : xL} {R : xR} {H : Heap} {locs : List Loc} {ls : Array Slot}  {x0 : Nat} {ro : (Nat ⊕ Nat)} {To : xT} {No : xT} {Zo : Nat} {So : Nat} {Io : xI} {Ro : xR} (X : Cx D dA s0 p m c cX6_part 2 s args RX6 meth) (hr : meth.sig.returnType = (some (.object "LostLanes$Sum"))) (htE : c.exceptionTable.toList = []) (hrc : Con_X6_sum_rX20 l D dA s0 fd ld rc) (hrz : Mon_X6_sum_rX20 rc)    (hf : fX6_part_rX20_b55 nf rc (sv dA) T N Z S I L R x0 = some (ro, To, No, Zo, So, Io, Ro)) (V : Iv D dA s0 s T N Z I L R H locs) (hl : lv_has ls 2 [(0, .ref x0)]) (hB : cells + (Zo - Z) ≤ kc ∧ slots + (So - S) ≤ ks) : W p l e { frames := fd + 8, cells := kc, slots := ks, locals := ld + 171 } s m args below meth c H locs cells slots (vx_MQ below (yQ D dA s0 (rA_ ro) To No Zo Io L Ro) (yX D dA s0 (rA_ ro) To No Zo Io L Ro) args s kc ks (fun q => s0 ≤ q)) (F0 m 55 ls []) := by
  have hx := X.1.1
  have hb := X.1.2.1
  unfold fX6_part_rX20_b55 at hf
  replace hf := nm_s hf; obtain ⟨T1, hT1, hf⟩ := hf
  replace hf := nm_s hf; obtain ⟨Z2, hZ2, hf⟩ := hf
  replace hf := nm_s hf; obtain ⟨S3, hS3, hf⟩ := hf
  have hm := zX6_part_rX20_b58 hrz hf
  refine x_new (pc := 55) X V okX11 hT1 hZ2 q943 q944 q141 (by show _ ≤ kc; omega) (by show _ ≤ ks; omega) dX6_part_55 (fun H V => ?_)
  exact wX6_part_rX20_b58 X hr htE hrc hrz hf V (lv_sub hl [0] rfl) ⟨by omega, by omega⟩
set_option maxHeartbeats 400000 in
set_option maxRecDepth 100000 in
theorem zX6_part_rX20_b24 {nf : Nat} {rc : (Nat → Option Nat) → xT → xT → Nat → Nat → xI → xL → xR → Nat → Option ((Nat ⊕ Nat) × xT × xT × Nat × Nat × xI × xR)} {dA : Nat → ClassId} {T : xT} {N : xT} {Z : Nat} {S : Nat} {I : xI} {L : xL} {R : xR}  {x0 : Nat} {x1 : Nat} {ro : (Nat ⊕ Nat)} {To : xT} {No : xT} {Zo : Nat} {So : Nat} {Io : xI} {Ro : xR} (hrz : Mon_X6_sum_rX20 rc)  (hf : fX6_part_rX20_b24 nf rc (sv dA) T N Z S I L R x0 x1 = some (ro, To, No, Zo, So, Io, Ro)) : Z ≤ Zo ∧ S ≤ So := by
  unfold fX6_part_rX20_b24 at hf
  replace hf := tg_s hf; obtain ⟨ht1, hf⟩ := hf
  replace hf := nm_s hf; obtain ⟨I2, hI2, hf⟩ := hf
  cases hf
  exact ⟨Nat.le_refl _, Nat.le_refl _⟩
set_option maxHeartbeats 400000 in
set_option maxRecDepth 100000 in
theorem wX6_part_rX20_b24 {nf : Nat} {fd ld : Nat} {rc : (Nat → Option Nat) → xT → xT → Nat → Nat → xI → xL → xR → Nat → Option ((Nat ⊕ Nat) × xT × xT × Nat × Nat × xI × xR)} {kc ks : Nat} {cells slots : Nat} {p : Program} {l : Launch} {e : Env} {s : State} {m : MethodId} {args : Array Value} {below : List Frame} {meth : Method} {c : Code} {D : va_G} {dA : Nat → ClassId} {s0 : Nat} {T : xT} {N : xT} {Z : Nat} {S : Nat} {I : xI} {L : xL} {R : xR} {H : Heap} {locs : List Loc} {ls : Array Slot}  {x0 : Nat} {x1 : Nat} {ro : (Nat ⊕ Nat)} {To : xT} {No : xT} {Zo : Nat} {So : Nat} {Io : xI} {Ro : xR} (X : Cx D dA s0 p m c cX6_part 2 s args RX6 meth) (hr : meth.sig.returnType = (some (.object "LostLanes$Sum"))) (htE : c.exceptionTable.toList = []) (hrc : Con_X6_sum_rX20 l D dA s0 fd ld rc) (hrz : Mon_X6_sum_rX20 rc)    (hf : fX6_part_rX20_b24 nf rc (sv dA) T N Z S I L R x0 x1 = some (ro, To, No, Zo, So, Io, Ro)) (V : Iv D dA s0 s T N Z I L R H locs) (hl : lv_has ls 2 [(0, .ref x0), (1, .ref x1)]) (hB : cells + (Zo - Z) ≤ kc ∧ slots + (So - S) ≤ ks) : W p l e { frames := fd + 8, cells := kc, slots := ks, locals := ld + 171 } s m args below meth c H locs cells slots (vx_MQ below (yQ D dA s0 (rA_ ro) To No Zo Io L Ro) (yX D dA s0 (rA_ ro) To No Zo Io L Ro) args s kc ks (fun q => s0 ≤ q)) (F0 m 24 ls []) := by
  have hx := X.1.1
  have hb := X.1.2.1
  unfold fX6_part_rX20_b24 at hf
  refine lv_aload_n (pc := 24) hx hb dX6_part_24 rfl (lv_at hl 0 rfl) ?_
  refine lv_dup (pc := 25) hx hb dX6_part_25 rfl ?_
  replace hf := tg_s hf; obtain ⟨ht1, hf⟩ := hf
  refine x_get (pc := 26) X V okX20 ht1 6 (by decide) q747 (v := .int (I x0 6)) rfl dX6_part_26 ?_
  refine lv_iconst (pc := 29) (v := (ii 1)) hx hb dX6_part_29 (by decide) ?_
  refine lv_isub (pc := 30) hx hb dX6_part_30 ?_
  replace hf := nm_s hf; obtain ⟨I2, hI2, hf⟩ := hf
  refine x_puti (pc := 31) X V okX20 (by decide) ht1 6 (by decide) q747 (Or.inl rfl) hI2 (fun _ _ _ => rfl) rfl rfl dX6_part_31 (fun H locs V => ?_)
  refine lv_aload_n (pc := 34) hx hb dX6_part_34 rfl (lv_at hl 1 rfl) ?_
  cases hf
  exact y_aret (pc := 35) X V hr (by omega) (by omega) (Or.inl ⟨_, rfl⟩) dX6_part_35
set_option maxHeartbeats 400000 in
set_option maxRecDepth 100000 in
theorem zX6_part_rX20_b17 {nf : Nat} {rc : (Nat → Option Nat) → xT → xT → Nat → Nat → xI → xL → xR → Nat → Option ((Nat ⊕ Nat) × xT × xT × Nat × Nat × xI × xR)} {dA : Nat → ClassId} {T : xT} {N : xT} {Z : Nat} {S : Nat} {I : xI} {L : xL} {R : xR}  {x0 : Nat} {z0 : Nat} {ro : (Nat ⊕ Nat)} {To : xT} {No : xT} {Zo : Nat} {So : Nat} {Io : xI} {Ro : xR} (hrz : Mon_X6_sum_rX20 rc)  (hf : fX6_part_rX20_b17 nf rc (sv dA) T N Z S I L R x0 z0 = some (ro, To, No, Zo, So, Io, Ro)) : Z ≤ Zo ∧ S ≤ So := by
  unfold fX6_part_rX20_b17 at hf
  replace hf := bs hf; obtain ⟨a1, ha1, hf⟩ := hf
  replace hf := tg_s hf; obtain ⟨ht10, hf⟩ := hf
  replace hf := b7s hf; obtain ⟨r2, T3, N4, Z5, S6, I7, R8, hk_9, hf⟩ := hf
  have hm_hk_9 := zX6_need_rX20 hk_9
  replace hf := xc_s hf; rcases hf with ⟨a11, hr_13, hf⟩ | ⟨v12, hr_13, hf⟩
  · skip
    replace hf := tg_s hf; obtain ⟨ht14, hf⟩ := hf
    cases hf
    exact ⟨by omega, by omega⟩
  · skip
    have hm := zX6_part_rX20_b24 hrz hf
    exact ⟨by omega, by omega⟩
set_option maxHeartbeats 400000 in
set_option maxRecDepth 100000 in
theorem wX6_part_rX20_b17 {nf : Nat} {fd ld : Nat} {rc : (Nat → Option Nat) → xT → xT → Nat → Nat → xI → xL → xR → Nat → Option ((Nat ⊕ Nat) × xT × xT × Nat × Nat × xI × xR)} {kc ks : Nat} {cells slots : Nat} {p : Program} {l : Launch} {e : Env} {s : State} {m : MethodId} {args : Array Value} {below : List Frame} {meth : Method} {c : Code} {D : va_G} {dA : Nat → ClassId} {s0 : Nat} {T : xT} {N : xT} {Z : Nat} {S : Nat} {I : xI} {L : xL} {R : xR} {H : Heap} {locs : List Loc} {ls : Array Slot}  {x0 : Nat} {z0 : Nat} {ro : (Nat ⊕ Nat)} {To : xT} {No : xT} {Zo : Nat} {So : Nat} {Io : xI} {Ro : xR} (X : Cx D dA s0 p m c cX6_part 2 s args RX6 meth) (hr : meth.sig.returnType = (some (.object "LostLanes$Sum"))) (htE : c.exceptionTable.toList = []) (hrc : Con_X6_sum_rX20 l D dA s0 fd ld rc) (hrz : Mon_X6_sum_rX20 rc)    (hf : fX6_part_rX20_b17 nf rc (sv dA) T N Z S I L R x0 z0 = some (ro, To, No, Zo, So, Io, Ro)) (V : Iv D dA s0 s T N Z I L R H locs) (hl : lv_has ls 2 [(0, .ref x0)]) (hB : cells + (Zo - Z) ≤ kc ∧ slots + (So - S) ≤ ks) : W p l e { frames := fd + 8, cells := kc, slots := ks, locals := ld + 171 } s m args below meth c H locs cells slots (vx_MQ below (yQ D dA s0 (rA_ ro) To No Zo Io L Ro) (yX D dA s0 (rA_ ro) To No Zo Io L Ro) args s kc ks (fun q => s0 ≤ q)) (F0 m 17 ls [.ref z0]) := by
  have hx := X.1.1
  have hb := X.1.2.1
  unfold fX6_part_rX20_b17 at hf
  refine lv_astore_n (pc := 17) (lv' := [(1, .ref z0), (0, .ref x0)]) hx hb dX6_part_17 rfl hl (by decide) rfl (fun ls hl => ?_)
  refine lv_aload_n (pc := 18) hx hb dX6_part_18 rfl (lv_at hl 1 rfl) ?_
  replace hf := bs hf; obtain ⟨a1, ha1, hf⟩ := hf
  refine x_ldcS (pc := 19) X 4 rfl ha1 dX6_part_19 ?_
  replace hf := tg_s hf; obtain ⟨ht10, hf⟩ := hf
  replace hf := b7s hf; obtain ⟨r2, T3, N4, Z5, S6, I7, R8, hk_9, hf⟩ := hf
  have hm_hk_9 := zX6_need_rX20 hk_9
  replace hf := xc_s hf; rcases hf with ⟨a11, hr_13, hf⟩ | ⟨v12, hr_13, hf⟩
  · rw [hr_13] at hk_9
    replace hf := tg_s hf; obtain ⟨ht14, hf⟩ := hf
    have hzE : Z5 = Zo := by cases hf; rfl
    have hsE : S6 = So := by cases hf; rfl
    refine y_afterX (y_runU (pc := 21) (As := [.ref a1]) (rest := []) X V (mX6_need_rX20 l D dA s0 (kc := Z5 - Z) (ks := S6 - S) (Nat.le_refl _) (Nat.le_refl _) hk_9) okX20 ht10 q925 q927 q929 q926 q133 q930 rfl hsX6_need_rX20 ⟨by dsimp only; omega, by dsimp only; omega⟩ rfl hl.1 rfl (Nat.le_of_ble_eq_true rfl) dX6_part_21 ⟨by show _ ≤ kc; omega, by show _ ≤ ks; omega⟩) V (fun H locs V => ?_)
    cases hf
    exact y_out X V htE okX8 ht14 (by omega) (by omega)
  · rw [hr_13] at hk_9
    have hm := zX6_part_rX20_b24 hrz hf
    refine y_afterR (y_runU (pc := 21) (As := [.ref a1]) (rest := []) X V (mX6_need_rX20 l D dA s0 (kc := Z5 - Z) (ks := S6 - S) (Nat.le_refl _) (Nat.le_refl _) hk_9) okX20 ht10 q925 q927 q929 q926 q133 q930 rfl hsX6_need_rX20 ⟨by dsimp only; omega, by dsimp only; omega⟩ rfl hl.1 rfl (Nat.le_of_ble_eq_true rfl) dX6_part_21 ⟨by show _ ≤ kc; omega, by show _ ≤ ks; omega⟩) V (fun H locs V => W.eq (g2 := F0 m 24 ls []) rfl ?_)
    exact wX6_part_rX20_b24 X hr htE hrc hrz hf V (lv_sub hl [1, 0] rfl) ⟨by omega, by omega⟩
set_option maxHeartbeats 400000 in
set_option maxRecDepth 100000 in
theorem zX6_part_rX20_b13 {nf : Nat} {rc : (Nat → Option Nat) → xT → xT → Nat → Nat → xI → xL → xR → Nat → Option ((Nat ⊕ Nat) × xT × xT × Nat × Nat × xI × xR)} {dA : Nat → ClassId} {T : xT} {N : xT} {Z : Nat} {S : Nat} {I : xI} {L : xL} {R : xR}  {x0 : Nat} {ro : (Nat ⊕ Nat)} {To : xT} {No : xT} {Zo : Nat} {So : Nat} {Io : xI} {Ro : xR} (hrz : Mon_X6_sum_rX20 rc)  (hf : fX6_part_rX20_b13 nf rc (sv dA) T N Z S I L R x0 = some (ro, To, No, Zo, So, Io, Ro)) : Z ≤ Zo ∧ S ≤ So := by
  unfold fX6_part_rX20_b13 at hf
  replace hf := tg_s hf; obtain ⟨ht9, hf⟩ := hf
  replace hf := b7s hf; obtain ⟨r1, T2, N3, Z4, S5, I6, R7, hk_8, hf⟩ := hf
  have hm_hk_8 := hrz hk_8
  replace hf := xc_s hf; rcases hf with ⟨a10, hr_12, hf⟩ | ⟨v11, hr_12, hf⟩
  · skip
    replace hf := tg_s hf; obtain ⟨ht13, hf⟩ := hf
    cases hf
    exact ⟨by omega, by omega⟩
  · skip
    have hm := zX6_part_rX20_b17 hrz hf
    exact ⟨by omega, by omega⟩
set_option maxHeartbeats 400000 in
set_option maxRecDepth 100000 in
theorem wX6_part_rX20_b13 {nf : Nat} {fd ld : Nat} {rc : (Nat → Option Nat) → xT → xT → Nat → Nat → xI → xL → xR → Nat → Option ((Nat ⊕ Nat) × xT × xT × Nat × Nat × xI × xR)} {kc ks : Nat} {cells slots : Nat} {p : Program} {l : Launch} {e : Env} {s : State} {m : MethodId} {args : Array Value} {below : List Frame} {meth : Method} {c : Code} {D : va_G} {dA : Nat → ClassId} {s0 : Nat} {T : xT} {N : xT} {Z : Nat} {S : Nat} {I : xI} {L : xL} {R : xR} {H : Heap} {locs : List Loc} {ls : Array Slot}  {x0 : Nat} {ro : (Nat ⊕ Nat)} {To : xT} {No : xT} {Zo : Nat} {So : Nat} {Io : xI} {Ro : xR} (X : Cx D dA s0 p m c cX6_part 2 s args RX6 meth) (hr : meth.sig.returnType = (some (.object "LostLanes$Sum"))) (htE : c.exceptionTable.toList = []) (hrc : Con_X6_sum_rX20 l D dA s0 fd ld rc) (hrz : Mon_X6_sum_rX20 rc)    (hf : fX6_part_rX20_b13 nf rc (sv dA) T N Z S I L R x0 = some (ro, To, No, Zo, So, Io, Ro)) (V : Iv D dA s0 s T N Z I L R H locs) (hl : lv_has ls 2 [(0, .ref x0)]) (hB : cells + (Zo - Z) ≤ kc ∧ slots + (So - S) ≤ ks) : W p l e { frames := fd + 8, cells := kc, slots := ks, locals := ld + 171 } s m args below meth c H locs cells slots (vx_MQ below (yQ D dA s0 (rA_ ro) To No Zo Io L Ro) (yX D dA s0 (rA_ ro) To No Zo Io L Ro) args s kc ks (fun q => s0 ≤ q)) (F0 m 13 ls []) := by
  have hx := X.1.1
  have hb := X.1.2.1
  unfold fX6_part_rX20_b13 at hf
  refine lv_aload_n (pc := 13) hx hb dX6_part_13 rfl (lv_at hl 0 rfl) ?_
  replace hf := tg_s hf; obtain ⟨ht9, hf⟩ := hf
  replace hf := b7s hf; obtain ⟨r1, T2, N3, Z4, S5, I6, R7, hk_8, hf⟩ := hf
  have hm_hk_8 := hrz hk_8
  replace hf := xc_s hf; rcases hf with ⟨a10, hr_12, hf⟩ | ⟨v11, hr_12, hf⟩
  · rw [hr_12] at hk_8
    replace hf := tg_s hf; obtain ⟨ht13, hf⟩ := hf
    have hzE : Z4 = Zo := by cases hf; rfl
    have hsE : S5 = So := by cases hf; rfl
    refine y_afterX (y_runU (pc := 14) (As := []) (rest := []) X V (hrc (kc := Z4 - Z) (ks := S5 - S) (Nat.le_refl _) (Nat.le_refl _) hk_8) okX20 ht9 q923 q2225 q2227 q901 q133 q902 rfl hsX6_sum_rX20 ⟨by dsimp only; omega, by dsimp only; omega⟩ rfl hl.1 rfl (Nat.le_of_ble_eq_true rfl) dX6_part_14 ⟨by show _ ≤ kc; omega, by show _ ≤ ks; omega⟩) V (fun H locs V => ?_)
    cases hf
    exact y_out X V htE okX8 ht13 (by omega) (by omega)
  · rw [hr_12] at hk_8
    have hm := zX6_part_rX20_b17 hrz hf
    refine y_afterR (y_runU (pc := 14) (As := []) (rest := []) X V (hrc (kc := Z4 - Z) (ks := S5 - S) (Nat.le_refl _) (Nat.le_refl _) hk_8) okX20 ht9 q923 q2225 q2227 q901 q133 q902 rfl hsX6_sum_rX20 ⟨by dsimp only; omega, by dsimp only; omega⟩ rfl hl.1 rfl (Nat.le_of_ble_eq_true rfl) dX6_part_14 ⟨by show _ ≤ kc; omega, by show _ ≤ ks; omega⟩) V (fun H locs V => W.eq (g2 := F0 m 17 ls [.ref v11]) rfl ?_)
    exact wX6_part_rX20_b17 X hr htE hrc hrz hf V (lv_sub hl [0] rfl) ⟨by omega, by omega⟩
set_option maxHeartbeats 400000 in
set_option maxRecDepth 100000 in
theorem zX6_part_rX20 {nf : Nat} {rc : (Nat → Option Nat) → xT → xT → Nat → Nat → xI → xL → xR → Nat → Option ((Nat ⊕ Nat) × xT × xT × Nat × Nat × xI × xR)} {dA : Nat → ClassId} {T : xT} {N : xT} {Z : Nat} {S : Nat} {I : xI} {L : xL} {R : xR} {x0 : Nat} {ro : (Nat ⊕ Nat)} {To : xT} {No : xT} {Zo : Nat} {So : Nat} {Io : xI} {Ro : xR} (hrz : Mon_X6_sum_rX20 rc) (hf : fX6_part_rX20 nf rc (sv dA) T N Z S I L R x0 = some (ro, To, No, Zo, So, Io, Ro)) : Z ≤ Zo ∧ S ≤ So := by
  unfold fX6_part_rX20 at hf
  replace hf := bs hf; obtain ⟨a1, ha1, hf⟩ := hf
  replace hf := tg_s hf; obtain ⟨ht4, hf⟩ := hf
  replace hf := bs hf; obtain ⟨r2, hk_3, hf⟩ := hf
  rcases (Decidable.em (r2 = (ii 0))) with c5 | c5
  · replace hf := if_t hf c5
    replace hf := bs hf; obtain ⟨r6, hk_7, hf⟩ := hf
    rcases (Decidable.em (r6 = (ii 0))) with c8 | c8
    · replace hf := if_t hf c8
      replace hf := b7s hf; obtain ⟨r9, T10, N11, Z12, S13, I14, R15, hk_16, hf⟩ := hf
      have hm_hk_16 := zX20_value hk_16
      replace hf := xc_s hf; rcases hf with ⟨a17, hr_19, hf⟩ | ⟨v18, hr_19, hf⟩
      · skip
        replace hf := tg_s hf; obtain ⟨ht20, hf⟩ := hf
        cases hf
        exact ⟨by omega, by omega⟩
      · skip
        have hm := zX6_part_rX20_b75 hrz hf
        exact ⟨by omega, by omega⟩
    · replace hf := if_f hf c8
      replace hf := b7s hf; obtain ⟨r21, T22, N23, Z24, S25, I26, R27, hk_28, hf⟩ := hf
      have hm_hk_28 := zX6_leaf_rX20 hk_28
      replace hf := xc_s hf; rcases hf with ⟨a29, hr_31, hf⟩ | ⟨v30, hr_31, hf⟩
      · skip
        replace hf := tg_s hf; obtain ⟨ht32, hf⟩ := hf
        cases hf
        exact ⟨by omega, by omega⟩
      · skip
        have hm := zX6_part_rX20_b55 hrz hf
        exact ⟨by omega, by omega⟩
  · replace hf := if_f hf c5
    replace hf := b7s hf; obtain ⟨r33, T34, N35, Z36, S37, I38, R39, hk_40, hf⟩ := hf
    have hm_hk_40 := zX6_opens_rX20 hk_40
    replace hf := xc_s hf; rcases hf with ⟨a41, hr_43, hf⟩ | ⟨v42, hr_43, hf⟩
    · skip
      replace hf := tg_s hf; obtain ⟨ht44, hf⟩ := hf
      cases hf
      exact ⟨by omega, by omega⟩
    · skip
      have hm := zX6_part_rX20_b13 hrz hf
      exact ⟨by omega, by omega⟩
set_option maxHeartbeats 400000 in
set_option maxRecDepth 100000 in
theorem wX6_part_rX20_e {nf : Nat} {fd ld : Nat} {rc : (Nat → Option Nat) → xT → xT → Nat → Nat → xI → xL → xR → Nat → Option ((Nat ⊕ Nat) × xT × xT × Nat × Nat × xI × xR)} {kc ks : Nat} {cells slots : Nat} {p : Program} {l : Launch} {e : Env} {s : State} {m : MethodId} {args : Array Value} {below : List Frame} {meth : Method} {c : Code} {D : va_G} {dA : Nat → ClassId} {s0 : Nat} {T : xT} {N : xT} {Z : Nat} {S : Nat} {I : xI} {L : xL} {R : xR} {H : Heap} {locs : List Loc} {ls : Array Slot} {x0 : Nat} {ro : (Nat ⊕ Nat)} {To : xT} {No : xT} {Zo : Nat} {So : Nat} {Io : xI} {Ro : xR} (X : Cx D dA s0 p m c cX6_part 2 s args RX6 meth) (hr : meth.sig.returnType = (some (.object "LostLanes$Sum"))) (htE : c.exceptionTable.toList = []) (hrc : Con_X6_sum_rX20 l D dA s0 fd ld rc) (hrz : Mon_X6_sum_rX20 rc)  (hf : fX6_part_rX20 nf rc (sv dA) T N Z S I L R x0 = some (ro, To, No, Zo, So, Io, Ro)) (V : Iv D dA s0 s T N Z I L R H locs) (hl : lv_has ls 2 [(0, .ref x0)]) (hB : cells + (Zo - Z) ≤ kc ∧ slots + (So - S) ≤ ks) : W p l e { frames := fd + 8, cells := kc, slots := ks, locals := ld + 171 } s m args below meth c H locs cells slots (vx_MQ below (yQ D dA s0 (rA_ ro) To No Zo Io L Ro) (yX D dA s0 (rA_ ro) To No Zo Io L Ro) args s kc ks (fun q => s0 ≤ q)) (F0 m 0 ls []) := by
  have hx := X.1.1
  have hb := X.1.2.1
  unfold fX6_part_rX20 at hf
  refine lv_aload_n (pc := 0) hx hb dX6_part_0 rfl (lv_at hl 0 rfl) ?_
  replace hf := bs hf; obtain ⟨a1, ha1, hf⟩ := hf
  refine x_ldcS (pc := 1) X 3 rfl ha1 dX6_part_1 ?_
  replace hf := tg_s hf; obtain ⟨ht4, hf⟩ := hf
  replace hf := bs hf; obtain ⟨r2, hk_3, hf⟩ := hf
  refine x_callU (pc := 3) (As := [.ref a1]) (rest := []) X V (mX6_is_rX20 l D dA s0 hk_3) okX20 ht4 q916 q2222 q2224 q799 q133 q800 rfl hsX6_is_rX20 ⟨by dsimp only; omega, by dsimp only; omega⟩ rfl hl.1 rfl (Nat.le_of_ble_eq_true rfl) dX6_part_3 ⟨by show cells ≤ kc; omega, by show slots ≤ ks; omega⟩ (fun H locs V => W.eq (g2 := F0 m 6 ls [.int r2]) rfl ?_)
  refine lv_if_eq (pc := 6) (tgt := 36) hx hb dX6_part_6 (by decide) (fun c5 => ?_) (fun c5 => ?_)
  · replace hf := if_t hf c5
    refine lv_aload_n (pc := 36) hx hb dX6_part_36 rfl (lv_at hl 0 rfl) ?_
    refine lv_aload_n (pc := 37) hx hb dX6_part_37 rfl (lv_at hl 0 rfl) ?_
    refine x_get (pc := 38) X V okX20 ht4 3 (by decide) q744 (v := .int (I x0 3)) rfl dX6_part_38 ?_
    refine lv_bipush (pc := 41) (v := (ii 48)) hx hb dX6_part_41 (by decide) ?_
    refine lv_bipush (pc := 43) (v := (ii 57)) hx hb dX6_part_43 (by decide) ?_
    replace hf := bs hf; obtain ⟨r6, hk_7, hf⟩ := hf
    refine x_callU (pc := 45) (As := [.int (I x0 3), .int (ii 48), .int (ii 57)]) (rest := []) X V (mX6_isIn_rX20 l D dA s0 hk_7) okX20 ht4 q782 q784 q786 q783 q133 q787 rfl hsX6_isIn_rX20 ⟨by dsimp only; omega, by dsimp only; omega⟩ rfl hl.1 rfl (Nat.le_of_ble_eq_true rfl) dX6_part_45 ⟨by show cells ≤ kc; omega, by show slots ≤ ks; omega⟩ (fun H locs V => W.eq (g2 := F0 m 48 ls [.int r6]) rfl ?_)
    refine lv_if_eq (pc := 48) (tgt := 71) hx hb dX6_part_48 (by decide) (fun c8 => ?_) (fun c8 => ?_)
    · replace hf := if_t hf c8
      refine lv_aload_n (pc := 71) hx hb dX6_part_71 rfl (lv_at hl 0 rfl) ?_
      replace hf := b7s hf; obtain ⟨r9, T10, N11, Z12, S13, I14, R15, hk_16, hf⟩ := hf
      have hm_hk_16 := zX20_value hk_16
      replace hf := xc_s hf; rcases hf with ⟨a17, hr_19, hf⟩ | ⟨v18, hr_19, hf⟩
      · rw [hr_19] at hk_16
        replace hf := tg_s hf; obtain ⟨ht20, hf⟩ := hf
        have hzE : Z12 = Zo := by cases hf; rfl
        have hsE : S13 = So := by cases hf; rfl
        refine y_afterX (y_runA (pc := 72) (As := []) (rest := []) X V (mX20_value l D dA s0 (kc := Z12 - Z) (ks := S13 - S) (Nat.le_refl _) (Nat.le_refl _) hk_16) okX20 ht4 q962 q964 q983 q984 q153 q985 q963 hu_X6_value ⟨by dsimp only; omega, by dsimp only; omega⟩ rfl hl.1 rfl (Nat.le_of_ble_eq_true rfl) dX6_part_72 ⟨by show _ ≤ kc; omega, by show _ ≤ ks; omega⟩) V (fun H locs V => ?_)
        cases hf
        exact y_out X V htE okX8 ht20 (by omega) (by omega)
      · rw [hr_19] at hk_16
        have hm := zX6_part_rX20_b75 hrz hf
        refine y_afterR (y_runA (pc := 72) (As := []) (rest := []) X V (mX20_value l D dA s0 (kc := Z12 - Z) (ks := S13 - S) (Nat.le_refl _) (Nat.le_refl _) hk_16) okX20 ht4 q962 q964 q983 q984 q153 q985 q963 hu_X6_value ⟨by dsimp only; omega, by dsimp only; omega⟩ rfl hl.1 rfl (Nat.le_of_ble_eq_true rfl) dX6_part_72 ⟨by show _ ≤ kc; omega, by show _ ≤ ks; omega⟩) V (fun H locs V => W.eq (g2 := F0 m 75 ls [.int v18]) rfl ?_)
        exact wX6_part_rX20_b75 X hr htE hrc hrz hf V (lv_sub hl [0] rfl) ⟨by omega, by omega⟩
    · replace hf := if_f hf c8
      refine lv_aload_n (pc := 51) hx hb dX6_part_51 rfl (lv_at hl 0 rfl) ?_
      replace hf := b7s hf; obtain ⟨r21, T22, N23, Z24, S25, I26, R27, hk_28, hf⟩ := hf
      have hm_hk_28 := zX6_leaf_rX20 hk_28
      replace hf := xc_s hf; rcases hf with ⟨a29, hr_31, hf⟩ | ⟨v30, hr_31, hf⟩
      · rw [hr_31] at hk_28
        replace hf := tg_s hf; obtain ⟨ht32, hf⟩ := hf
        have hzE : Z24 = Zo := by cases hf; rfl
        have hsE : S25 = So := by cases hf; rfl
        refine y_afterX (y_runU (pc := 52) (As := []) (rest := []) X V (mX6_leaf_rX20 l D dA s0 (kc := Z24 - Z) (ks := S25 - S) (Nat.le_refl _) (Nat.le_refl _) hk_28) okX20 ht4 q937 q939 q941 q938 q133 q942 rfl hsX6_leaf_rX20 ⟨by dsimp only; omega, by dsimp only; omega⟩ rfl hl.1 rfl (Nat.le_of_ble_eq_true rfl) dX6_part_52 ⟨by show _ ≤ kc; omega, by show _ ≤ ks; omega⟩) V (fun H locs V => ?_)
        cases hf
        exact y_out X V htE okX8 ht32 (by omega) (by omega)
      · rw [hr_31] at hk_28
        have hm := zX6_part_rX20_b55 hrz hf
        refine y_afterR (y_runU (pc := 52) (As := []) (rest := []) X V (mX6_leaf_rX20 l D dA s0 (kc := Z24 - Z) (ks := S25 - S) (Nat.le_refl _) (Nat.le_refl _) hk_28) okX20 ht4 q937 q939 q941 q938 q133 q942 rfl hsX6_leaf_rX20 ⟨by dsimp only; omega, by dsimp only; omega⟩ rfl hl.1 rfl (Nat.le_of_ble_eq_true rfl) dX6_part_52 ⟨by show _ ≤ kc; omega, by show _ ≤ ks; omega⟩) V (fun H locs V => W.eq (g2 := F0 m 55 ls []) rfl ?_)
        exact wX6_part_rX20_b55 X hr htE hrc hrz hf V (lv_sub hl [0] rfl) ⟨by omega, by omega⟩
  · replace hf := if_f hf c5
    refine lv_aload_n (pc := 9) hx hb dX6_part_9 rfl (lv_at hl 0 rfl) ?_
    replace hf := b7s hf; obtain ⟨r33, T34, N35, Z36, S37, I38, R39, hk_40, hf⟩ := hf
    have hm_hk_40 := zX6_opens_rX20 hk_40
    replace hf := xc_s hf; rcases hf with ⟨a41, hr_43, hf⟩ | ⟨v42, hr_43, hf⟩
    · rw [hr_43] at hk_40
      replace hf := tg_s hf; obtain ⟨ht44, hf⟩ := hf
      have hzE : Z36 = Zo := by cases hf; rfl
      have hsE : S37 = So := by cases hf; rfl
      refine y_afterX (y_runU (pc := 10) (As := []) (rest := []) X V (mX6_opens_rX20 l D dA s0 (kc := Z36 - Z) (ks := S37 - S) (Nat.le_refl _) (Nat.le_refl _) hk_40) okX20 ht4 q917 q919 q921 q918 q133 q922 rfl hsX6_opens_rX20 ⟨by dsimp only; omega, by dsimp only; omega⟩ rfl hl.1 rfl (Nat.le_of_ble_eq_true rfl) dX6_part_10 ⟨by show _ ≤ kc; omega, by show _ ≤ ks; omega⟩) V (fun H locs V => ?_)
      cases hf
      exact y_out X V htE okX8 ht44 (by omega) (by omega)
    · rw [hr_43] at hk_40
      have hm := zX6_part_rX20_b13 hrz hf
      refine y_afterR (y_runU (pc := 10) (As := []) (rest := []) X V (mX6_opens_rX20 l D dA s0 (kc := Z36 - Z) (ks := S37 - S) (Nat.le_refl _) (Nat.le_refl _) hk_40) okX20 ht4 q917 q919 q921 q918 q133 q922 rfl hsX6_opens_rX20 ⟨by dsimp only; omega, by dsimp only; omega⟩ rfl hl.1 rfl (Nat.le_of_ble_eq_true rfl) dX6_part_10 ⟨by show _ ≤ kc; omega, by show _ ≤ ks; omega⟩) V (fun H locs V => W.eq (g2 := F0 m 13 ls []) rfl ?_)
      exact wX6_part_rX20_b13 X hr htE hrc hrz hf V (lv_sub hl [0] rfl) ⟨by omega, by omega⟩
theorem mX6_part_rX20 {nf : Nat} {fd ld : Nat} {rc : (Nat → Option Nat) → xT → xT → Nat → Nat → xI → xL → xR → Nat → Option ((Nat ⊕ Nat) × xT × xT × Nat × Nat × xI × xR)} (l : Launch) (D : va_G) (dA : Nat → ClassId) (s0 : Nat) {kc ks : Nat} {T : xT} {N : xT} {Z : Nat} {S : Nat} {I : xI} {L : xL} {R : xR} {x0 : Nat} {ro : (Nat ⊕ Nat)} {To : xT} {No : xT} {Zo : Nat} {So : Nat} {Io : xI} {Ro : xR} (hrc : Con_X6_sum_rX20 l D dA s0 fd ld rc) (hrz : Mon_X6_sum_rX20 rc) (hZ : Zo - Z ≤ kc) (hS : So - S ≤ ks) (hf : fX6_part_rX20 nf rc (sv dA) T N Z S I L R x0 = some (ro, To, No, Zo, So, Io, Ro)) : YMet l D dA s0 yX6_part (ws_ yX6_part cX6_part 2 ((some (.object "LostLanes$Sum")))) (fd + 8) (ld + 171) [.ref x0] T N Z I L R (rA_ ro) To No Zo Io L Ro kc ks :=
  y_start (own := RX6) rfl (by decide) (Nat.le_of_ble_eq_true rfl) (lv := [(0, .ref x0)]) rfl (fun p e s m below meth c ls X hr htE V hl => wX6_part_rX20_e X hr htE hrc hrz hf V hl ⟨by omega, by omega⟩)
set_option maxHeartbeats 400000 in
set_option maxRecDepth 100000 in
theorem zX6_term_rX20_b57 {nf : Nat} {rc : (Nat → Option Nat) → xT → xT → Nat → Nat → xI → xL → xR → Nat → Option ((Nat ⊕ Nat) × xT × xT × Nat × Nat × xI × xR)} {dA : Nat → ClassId} {T : xT} {N : xT} {Z : Nat} {S : Nat} {I : xI} {L : xL} {R : xR} {kk5 : xT → xT → Nat → Nat → xI → xR → Nat → Nat → Option ((Nat ⊕ Nat) × xT × xT × Nat × Nat × xI × xR)} {x0 : Nat} {z0 : Nat} {z1 : Nat} {z2 : Int32} {z3 : Nat} {z4 : Nat} {ro : (Nat ⊕ Nat)} {To : xT} {No : xT} {Zo : Nat} {So : Nat} {Io : xI} {Ro : xR} (hrz : Mon_X6_sum_rX20 rc) (hm5 : ∀ {T : xT} {N : xT} {Z : Nat} {S : Nat} {I : xI} {R : xR} {x0 : Nat} {x1 : Nat}, kk5 T N Z S I R x0 x1 = some (ro, To, No, Zo, So, Io, Ro) → Z ≤ Zo ∧ S ≤ So) (hf : fX6_term_rX20_b57 nf rc kk5 (sv dA) T N Z S I L R x0 z0 z1 z2 z3 z4 = some (ro, To, No, Zo, So, Io, Ro)) : Z ≤ Zo ∧ S ≤ So := by
  unfold fX6_term_rX20_b57 at hf
  replace hf := b2s hf; obtain ⟨I1, R2, hk_3, hf⟩ := hf
  have hm := hm5 hf
  exact ⟨by omega, by omega⟩
set_option maxHeartbeats 400000 in
set_option maxRecDepth 100000 in
theorem wX6_term_rX20_b57 {nf : Nat} {fd ld : Nat} {rc : (Nat → Option Nat) → xT → xT → Nat → Nat → xI → xL → xR → Nat → Option ((Nat ⊕ Nat) × xT × xT × Nat × Nat × xI × xR)} {kc ks : Nat} {cells slots : Nat} {p : Program} {l : Launch} {e : Env} {s : State} {m : MethodId} {args : Array Value} {below : List Frame} {meth : Method} {c : Code} {D : va_G} {dA : Nat → ClassId} {s0 : Nat} {T : xT} {N : xT} {Z : Nat} {S : Nat} {I : xI} {L : xL} {R : xR} {H : Heap} {locs : List Loc} {ls : Array Slot} {kk5 : xT → xT → Nat → Nat → xI → xR → Nat → Nat → Option ((Nat ⊕ Nat) × xT × xT × Nat × Nat × xI × xR)} {x0 : Nat} {z0 : Nat} {z1 : Nat} {z2 : Int32} {z3 : Nat} {z4 : Nat} {ro : (Nat ⊕ Nat)} {To : xT} {No : xT} {Zo : Nat} {So : Nat} {Io : xI} {Ro : xR} (X : Cx D dA s0 p m c cX6_term 3 s args RX6 meth) (hr : meth.sig.returnType = (some (.object "LostLanes$Sum"))) (htE : c.exceptionTable.toList = []) (hrc : Con_X6_sum_rX20 l D dA s0 fd ld rc) (hrz : Mon_X6_sum_rX20 rc)  (hk5 : ∀ {T : xT} {N : xT} {Z : Nat} {S : Nat} {I : xI} {R : xR} {x0 : Nat} {x1 : Nat} {H : Heap} {locs : List Loc} {ls : Array Slot} {cells slots : Nat} , kk5 T N Z S I R x0 x1 = some (ro, To, No, Zo, So, Io, Ro) → Iv D dA s0 s T N Z I L R H locs → lv_has ls 3 [(0, .ref x0), (1, .ref x1)] → cells + (Zo - Z) ≤ kc ∧ slots + (So - S) ≤ ks → W p l e { frames := fd + 9, cells := kc, slots := ks, locals := ld + 192 } s m args below meth c H locs cells slots (vx_MQ below (yQ D dA s0 (rA_ ro) To No Zo Io L Ro) (yX D dA s0 (rA_ ro) To No Zo Io L Ro) args s kc ks (fun q => s0 ≤ q)) (F0 m 5 ls [])) (hm5 : ∀ {T : xT} {N : xT} {Z : Nat} {S : Nat} {I : xI} {R : xR} {x0 : Nat} {x1 : Nat}, kk5 T N Z S I R x0 x1 = some (ro, To, No, Zo, So, Io, Ro) → Z ≤ Zo ∧ S ≤ So) (hf : fX6_term_rX20_b57 nf rc kk5 (sv dA) T N Z S I L R x0 z0 z1 z2 z3 z4 = some (ro, To, No, Zo, So, Io, Ro)) (V : Iv D dA s0 s T N Z I L R H locs) (hl : lv_has ls 3 [(0, .ref x0)]) (hB : cells + (Zo - Z) ≤ kc ∧ slots + (So - S) ≤ ks) : W p l e { frames := fd + 9, cells := kc, slots := ks, locals := ld + 192 } s m args below meth c H locs cells slots (vx_MQ below (yQ D dA s0 (rA_ ro) To No Zo Io L Ro) (yX D dA s0 (rA_ ro) To No Zo Io L Ro) args s kc ks (fun q => s0 ≤ q)) (F0 m 57 ls [.ref z4, .ref z3, .int z2, .ref z1, .ref z0]) := by
  have hx := X.1.1
  have hb := X.1.2.1
  unfold fX6_term_rX20_b57 at hf
  replace hf := b2s hf; obtain ⟨I1, R2, hk_3, hf⟩ := hf
  refine x_callI0 (pc := 57) (As := [.int z2, .ref z3, .ref z4]) (rest := [.ref z0]) X V (mX13_init l D dA s0 hk_3) q1015 q1016 q143 q1017 rfl hsX13_init ⟨by dsimp only; omega, by dsimp only; omega⟩ rfl hl.1 rfl (Nat.le_of_ble_eq_true rfl) dX6_term_57 ⟨by show cells ≤ kc; omega, by show slots ≤ ks; omega⟩ (fun H locs V => W.eq (g2 := F0 m 60 ls [.ref z0]) rfl ?_)
  refine lv_astore_n (pc := 60) (lv' := [(1, .ref z0), (0, .ref x0)]) hx hb dX6_term_60 rfl hl (by decide) rfl (fun ls hl => ?_)
  refine lv_goto (pc := 61) (tgt := 5) hx hb dX6_term_61 (by decide) ?_
  exact hk5 hf V (lv_sub hl [1, 0] rfl) ⟨by omega, by omega⟩
set_option maxHeartbeats 400000 in
set_option maxRecDepth 100000 in
theorem zX6_term_rX20_b50 {nf : Nat} {rc : (Nat → Option Nat) → xT → xT → Nat → Nat → xI → xL → xR → Nat → Option ((Nat ⊕ Nat) × xT × xT × Nat × Nat × xI × xR)} {dA : Nat → ClassId} {T : xT} {N : xT} {Z : Nat} {S : Nat} {I : xI} {L : xL} {R : xR} {kk5 : xT → xT → Nat → Nat → xI → xR → Nat → Nat → Option ((Nat ⊕ Nat) × xT × xT × Nat × Nat × xI × xR)} {x0 : Nat} {x1 : Nat} {x2 : Int32} {z0 : Nat} {ro : (Nat ⊕ Nat)} {To : xT} {No : xT} {Zo : Nat} {So : Nat} {Io : xI} {Ro : xR} (hrz : Mon_X6_sum_rX20 rc) (hm5 : ∀ {T : xT} {N : xT} {Z : Nat} {S : Nat} {I : xI} {R : xR} {x0 : Nat} {x1 : Nat}, kk5 T N Z S I R x0 x1 = some (ro, To, No, Zo, So, Io, Ro) → Z ≤ Zo ∧ S ≤ So) (hf : fX6_term_rX20_b50 nf rc kk5 (sv dA) T N Z S I L R x0 x1 x2 z0 = some (ro, To, No, Zo, So, Io, Ro)) : Z ≤ Zo ∧ S ≤ So := by
  unfold fX6_term_rX20_b50 at hf
  replace hf := tg_s hf; obtain ⟨ht9, hf⟩ := hf
  replace hf := b7s hf; obtain ⟨r1, T2, N3, Z4, S5, I6, R7, hk_8, hf⟩ := hf
  have hm_hk_8 := zX6_part_rX20 hrz hk_8
  replace hf := xc_s hf; rcases hf with ⟨a10, hr_12, hf⟩ | ⟨v11, hr_12, hf⟩
  · skip
    replace hf := tg_s hf; obtain ⟨ht13, hf⟩ := hf
    cases hf
    exact ⟨by omega, by omega⟩
  · skip
    have hm := zX6_term_rX20_b57 hrz hm5 hf
    exact ⟨by omega, by omega⟩
set_option maxHeartbeats 400000 in
set_option maxRecDepth 100000 in
theorem wX6_term_rX20_b50 {nf : Nat} {fd ld : Nat} {rc : (Nat → Option Nat) → xT → xT → Nat → Nat → xI → xL → xR → Nat → Option ((Nat ⊕ Nat) × xT × xT × Nat × Nat × xI × xR)} {kc ks : Nat} {cells slots : Nat} {p : Program} {l : Launch} {e : Env} {s : State} {m : MethodId} {args : Array Value} {below : List Frame} {meth : Method} {c : Code} {D : va_G} {dA : Nat → ClassId} {s0 : Nat} {T : xT} {N : xT} {Z : Nat} {S : Nat} {I : xI} {L : xL} {R : xR} {H : Heap} {locs : List Loc} {ls : Array Slot} {kk5 : xT → xT → Nat → Nat → xI → xR → Nat → Nat → Option ((Nat ⊕ Nat) × xT × xT × Nat × Nat × xI × xR)} {x0 : Nat} {x1 : Nat} {x2 : Int32} {z0 : Nat} {ro : (Nat ⊕ Nat)} {To : xT} {No : xT} {Zo : Nat} {So : Nat} {Io : xI} {Ro : xR} (X : Cx D dA s0 p m c cX6_term 3 s args RX6 meth) (hr : meth.sig.returnType = (some (.object "LostLanes$Sum"))) (htE : c.exceptionTable.toList = []) (hrc : Con_X6_sum_rX20 l D dA s0 fd ld rc) (hrz : Mon_X6_sum_rX20 rc)  (hk5 : ∀ {T : xT} {N : xT} {Z : Nat} {S : Nat} {I : xI} {R : xR} {x0 : Nat} {x1 : Nat} {H : Heap} {locs : List Loc} {ls : Array Slot} {cells slots : Nat} , kk5 T N Z S I R x0 x1 = some (ro, To, No, Zo, So, Io, Ro) → Iv D dA s0 s T N Z I L R H locs → lv_has ls 3 [(0, .ref x0), (1, .ref x1)] → cells + (Zo - Z) ≤ kc ∧ slots + (So - S) ≤ ks → W p l e { frames := fd + 9, cells := kc, slots := ks, locals := ld + 192 } s m args below meth c H locs cells slots (vx_MQ below (yQ D dA s0 (rA_ ro) To No Zo Io L Ro) (yX D dA s0 (rA_ ro) To No Zo Io L Ro) args s kc ks (fun q => s0 ≤ q)) (F0 m 5 ls [])) (hm5 : ∀ {T : xT} {N : xT} {Z : Nat} {S : Nat} {I : xI} {R : xR} {x0 : Nat} {x1 : Nat}, kk5 T N Z S I R x0 x1 = some (ro, To, No, Zo, So, Io, Ro) → Z ≤ Zo ∧ S ≤ So) (hf : fX6_term_rX20_b50 nf rc kk5 (sv dA) T N Z S I L R x0 x1 x2 z0 = some (ro, To, No, Zo, So, Io, Ro)) (V : Iv D dA s0 s T N Z I L R H locs) (hl : lv_has ls 3 [(0, .ref x0), (1, .ref x1), (2, .int x2)]) (hB : cells + (Zo - Z) ≤ kc ∧ slots + (So - S) ≤ ks) : W p l e { frames := fd + 9, cells := kc, slots := ks, locals := ld + 192 } s m args below meth c H locs cells slots (vx_MQ below (yQ D dA s0 (rA_ ro) To No Zo Io L Ro) (yX D dA s0 (rA_ ro) To No Zo Io L Ro) args s kc ks (fun q => s0 ≤ q)) (F0 m 50 ls [.ref z0]) := by
  have hx := X.1.1
  have hb := X.1.2.1
  unfold fX6_term_rX20_b50 at hf
  refine lv_dup (pc := 50) hx hb dX6_term_50 rfl ?_
  refine lv_iload_n (pc := 51) hx hb dX6_term_51 rfl (lv_at hl 2 rfl) ?_
  refine lv_aload_n (pc := 52) hx hb dX6_term_52 rfl (lv_at hl 1 rfl) ?_
  refine lv_aload_n (pc := 53) hx hb dX6_term_53 rfl (lv_at hl 0 rfl) ?_
  replace hf := tg_s hf; obtain ⟨ht9, hf⟩ := hf
  replace hf := b7s hf; obtain ⟨r1, T2, N3, Z4, S5, I6, R7, hk_8, hf⟩ := hf
  have hm_hk_8 := zX6_part_rX20 hrz hk_8
  replace hf := xc_s hf; rcases hf with ⟨a10, hr_12, hf⟩ | ⟨v11, hr_12, hf⟩
  · rw [hr_12] at hk_8
    replace hf := tg_s hf; obtain ⟨ht13, hf⟩ := hf
    have hzE : Z4 = Zo := by cases hf; rfl
    have hsE : S5 = So := by cases hf; rfl
    refine y_afterX (y_runU (pc := 54) (As := []) (rest := [.ref x1, .int x2, .ref z0, .ref z0]) X V (mX6_part_rX20 l D dA s0 hrc hrz (kc := Z4 - Z) (ks := S5 - S) (Nat.le_refl _) (Nat.le_refl _) hk_8) okX20 ht9 q909 q911 q913 q910 q133 q914 rfl hsX6_part_rX20 ⟨by dsimp only; omega, by dsimp only; omega⟩ rfl hl.1 rfl (Nat.le_of_ble_eq_true rfl) dX6_term_54 ⟨by show _ ≤ kc; omega, by show _ ≤ ks; omega⟩) V (fun H locs V => ?_)
    cases hf
    exact y_out X V htE okX8 ht13 (by omega) (by omega)
  · rw [hr_12] at hk_8
    have hm := zX6_term_rX20_b57 hrz hm5 hf
    refine y_afterR (y_runU (pc := 54) (As := []) (rest := [.ref x1, .int x2, .ref z0, .ref z0]) X V (mX6_part_rX20 l D dA s0 hrc hrz (kc := Z4 - Z) (ks := S5 - S) (Nat.le_refl _) (Nat.le_refl _) hk_8) okX20 ht9 q909 q911 q913 q910 q133 q914 rfl hsX6_part_rX20 ⟨by dsimp only; omega, by dsimp only; omega⟩ rfl hl.1 rfl (Nat.le_of_ble_eq_true rfl) dX6_term_54 ⟨by show _ ≤ kc; omega, by show _ ≤ ks; omega⟩) V (fun H locs V => W.eq (g2 := F0 m 57 ls [.ref v11, .ref x1, .int x2, .ref z0, .ref z0]) rfl ?_)
    exact wX6_term_rX20_b57 X hr htE hrc hrz hk5 hm5 hf V (lv_sub hl [0] rfl) ⟨by omega, by omega⟩
set_option maxHeartbeats 400000 in
set_option maxRecDepth 100000 in
theorem zX6_term_rX20_b32 {nf : Nat} {rc : (Nat → Option Nat) → xT → xT → Nat → Nat → xI → xL → xR → Nat → Option ((Nat ⊕ Nat) × xT × xT × Nat × Nat × xI × xR)} {dA : Nat → ClassId} {T : xT} {N : xT} {Z : Nat} {S : Nat} {I : xI} {L : xL} {R : xR} {kk5 : xT → xT → Nat → Nat → xI → xR → Nat → Nat → Option ((Nat ⊕ Nat) × xT × xT × Nat × Nat × xI × xR)} {x0 : Nat} {x1 : Nat} {ro : (Nat ⊕ Nat)} {To : xT} {No : xT} {Zo : Nat} {So : Nat} {Io : xI} {Ro : xR} (hrz : Mon_X6_sum_rX20 rc) (hm5 : ∀ {T : xT} {N : xT} {Z : Nat} {S : Nat} {I : xI} {R : xR} {x0 : Nat} {x1 : Nat}, kk5 T N Z S I R x0 x1 = some (ro, To, No, Zo, So, Io, Ro) → Z ≤ Zo ∧ S ≤ So) (hf : fX6_term_rX20_b32 nf rc kk5 (sv dA) T N Z S I L R x0 x1 = some (ro, To, No, Zo, So, Io, Ro)) : Z ≤ Zo ∧ S ≤ So := by
  unfold fX6_term_rX20_b32 at hf
  replace hf := tg_s hf; obtain ⟨ht1, hf⟩ := hf
  replace hf := bs hf; obtain ⟨a2, ha2, hf⟩ := hf
  replace hf := rA_s hf; obtain ⟨j3, hjj3, htj3, hij3, hf⟩ := hf
  replace hf := nm_s hf; obtain ⟨u4, hu4, hf⟩ := hf
  replace hf := bs hf; obtain ⟨I5, hk_6, hf⟩ := hf
  replace hf := nm_s hf; obtain ⟨T7, hT7, hf⟩ := hf
  replace hf := nm_s hf; obtain ⟨Z8, hZ8, hf⟩ := hf
  replace hf := nm_s hf; obtain ⟨S9, hS9, hf⟩ := hf
  have hm := zX6_term_rX20_b50 hrz hm5 hf
  exact ⟨by omega, by omega⟩
set_option maxHeartbeats 400000 in
set_option maxRecDepth 100000 in
theorem wX6_term_rX20_b32 {nf : Nat} {fd ld : Nat} {rc : (Nat → Option Nat) → xT → xT → Nat → Nat → xI → xL → xR → Nat → Option ((Nat ⊕ Nat) × xT × xT × Nat × Nat × xI × xR)} {kc ks : Nat} {cells slots : Nat} {p : Program} {l : Launch} {e : Env} {s : State} {m : MethodId} {args : Array Value} {below : List Frame} {meth : Method} {c : Code} {D : va_G} {dA : Nat → ClassId} {s0 : Nat} {T : xT} {N : xT} {Z : Nat} {S : Nat} {I : xI} {L : xL} {R : xR} {H : Heap} {locs : List Loc} {ls : Array Slot} {kk5 : xT → xT → Nat → Nat → xI → xR → Nat → Nat → Option ((Nat ⊕ Nat) × xT × xT × Nat × Nat × xI × xR)} {x0 : Nat} {x1 : Nat} {ro : (Nat ⊕ Nat)} {To : xT} {No : xT} {Zo : Nat} {So : Nat} {Io : xI} {Ro : xR} (X : Cx D dA s0 p m c cX6_term 3 s args RX6 meth) (hr : meth.sig.returnType = (some (.object "LostLanes$Sum"))) (htE : c.exceptionTable.toList = []) (hrc : Con_X6_sum_rX20 l D dA s0 fd ld rc) (hrz : Mon_X6_sum_rX20 rc)  (hk5 : ∀ {T : xT} {N : xT} {Z : Nat} {S : Nat} {I : xI} {R : xR} {x0 : Nat} {x1 : Nat} {H : Heap} {locs : List Loc} {ls : Array Slot} {cells slots : Nat} , kk5 T N Z S I R x0 x1 = some (ro, To, No, Zo, So, Io, Ro) → Iv D dA s0 s T N Z I L R H locs → lv_has ls 3 [(0, .ref x0), (1, .ref x1)] → cells + (Zo - Z) ≤ kc ∧ slots + (So - S) ≤ ks → W p l e { frames := fd + 9, cells := kc, slots := ks, locals := ld + 192 } s m args below meth c H locs cells slots (vx_MQ below (yQ D dA s0 (rA_ ro) To No Zo Io L Ro) (yX D dA s0 (rA_ ro) To No Zo Io L Ro) args s kc ks (fun q => s0 ≤ q)) (F0 m 5 ls [])) (hm5 : ∀ {T : xT} {N : xT} {Z : Nat} {S : Nat} {I : xI} {R : xR} {x0 : Nat} {x1 : Nat}, kk5 T N Z S I R x0 x1 = some (ro, To, No, Zo, So, Io, Ro) → Z ≤ Zo ∧ S ≤ So) (hf : fX6_term_rX20_b32 nf rc kk5 (sv dA) T N Z S I L R x0 x1 = some (ro, To, No, Zo, So, Io, Ro)) (V : Iv D dA s0 s T N Z I L R H locs) (hl : lv_has ls 3 [(0, .ref x0), (1, .ref x1)]) (hB : cells + (Zo - Z) ≤ kc ∧ slots + (So - S) ≤ ks) : W p l e { frames := fd + 9, cells := kc, slots := ks, locals := ld + 192 } s m args below meth c H locs cells slots (vx_MQ below (yQ D dA s0 (rA_ ro) To No Zo Io L Ro) (yX D dA s0 (rA_ ro) To No Zo Io L Ro) args s kc ks (fun q => s0 ≤ q)) (F0 m 32 ls []) := by
  have hx := X.1.1
  have hb := X.1.2.1
  unfold fX6_term_rX20_b32 at hf
  refine lv_aload_n (pc := 32) hx hb dX6_term_32 rfl (lv_at hl 0 rfl) ?_
  replace hf := tg_s hf; obtain ⟨ht1, hf⟩ := hf
  replace hf := bs hf; obtain ⟨a2, ha2, hf⟩ := hf
  refine x_get (pc := 33) X V okX20 ht1 0 (by decide) q741 (v := va_rf (R x0 0)) rfl dX6_term_33 ?_
  refine x_topr ha2 ?_
  refine lv_aload_n (pc := 36) hx hb dX6_term_36 rfl (lv_at hl 0 rfl) ?_
  refine x_get (pc := 37) X V okX20 ht1 3 (by decide) q744 (v := .int (I x0 3)) rfl dX6_term_37 ?_
  replace hf := rA_s hf; obtain ⟨j3, hjj3, htj3, hij3, hf⟩ := hf
  refine x_bald (pc := 40) X V htj3 hij3 hjj3 dX6_term_40 ?_
  refine lv_i2c (pc := 41) hx hb dX6_term_41 rfl ?_
  replace hf := nm_s hf; obtain ⟨u4, hu4, hf⟩ := hf
  refine x_topi hu4 ?_
  refine lv_istore_n (pc := 42) (lv' := [(2, .int u4), (0, .ref x0), (1, .ref x1)]) hx hb dX6_term_42 rfl hl (by decide) rfl (fun ls hl => ?_)
  refine lv_aload_n (pc := 43) hx hb dX6_term_43 rfl (lv_at hl 1 rfl) ?_
  replace hf := bs hf; obtain ⟨I5, hk_6, hf⟩ := hf
  refine x_callU (pc := 44) (As := []) (rest := []) X V (mX6_next_rX20 l D dA s0 hk_6) okX20 ht1 q776 q778 q780 q777 q133 q781 rfl hsX6_next_rX20 ⟨by dsimp only; omega, by dsimp only; omega⟩ rfl hl.1 rfl (Nat.le_of_ble_eq_true rfl) dX6_term_44 ⟨by show cells ≤ kc; omega, by show slots ≤ ks; omega⟩ (fun H locs V => W.eq (g2 := F0 m 47 ls []) rfl ?_)
  replace hf := nm_s hf; obtain ⟨T7, hT7, hf⟩ := hf
  replace hf := nm_s hf; obtain ⟨Z8, hZ8, hf⟩ := hf
  replace hf := nm_s hf; obtain ⟨S9, hS9, hf⟩ := hf
  have hm := zX6_term_rX20_b50 hrz hm5 hf
  refine x_new (pc := 47) X V okX13 hT7 hZ8 q1013 q1014 q143 (by show _ ≤ kc; omega) (by show _ ≤ ks; omega) dX6_term_47 (fun H V => ?_)
  exact wX6_term_rX20_b50 X hr htE hrc hrz hk5 hm5 hf V (lv_sub hl [1, 2, 0] rfl) ⟨by omega, by omega⟩
set_option maxHeartbeats 400000 in
set_option maxRecDepth 100000 in
theorem zX6_term_rX20_b5 {nf : Nat} {rc : (Nat → Option Nat) → xT → xT → Nat → Nat → xI → xL → xR → Nat → Option ((Nat ⊕ Nat) × xT × xT × Nat × Nat × xI × xR)} {dA : Nat → ClassId} {L : xL}  {ro : (Nat ⊕ Nat)} {To : xT} {No : xT} {Zo : Nat} {So : Nat} {Io : xI} {Ro : xR} (hrz : Mon_X6_sum_rX20 rc)  (k : Nat) : ∀ {T : xT} {N : xT} {Z : Nat} {S : Nat} {I : xI} {R : xR} {x0 : Nat} {x1 : Nat}, fX6_term_rX20_b5 nf rc (sv dA) L k T N Z S I R x0 x1 = some (ro, To, No, Zo, So, Io, Ro) → Z ≤ Zo ∧ S ≤ So := by
  induction k with
  | zero =>
    intro T N Z S I R x0 x1 hf
    exact absurd (show none = some _ from hf) (fun q => nomatch q)
  | succ k ih =>
    intro T N Z S I R x0 x1 hf
    rw [fX6_term_rX20_b5] at hf
    replace hf := bs hf; obtain ⟨a1, ha1, hf⟩ := hf
    replace hf := tg_s hf; obtain ⟨ht4, hf⟩ := hf
    replace hf := bs hf; obtain ⟨r2, hk_3, hf⟩ := hf
    rcases (Decidable.em (r2 = (ii 0))).symm with c5 | c5
    · replace hf := if_f hf c5
      have hm := zX6_term_rX20_b32 hrz ih hf
      exact ⟨by omega, by omega⟩
    · replace hf := if_t hf c5
      replace hf := bs hf; obtain ⟨a6, ha6, hf⟩ := hf
      replace hf := bs hf; obtain ⟨r7, hk_8, hf⟩ := hf
      rcases (Decidable.em (r7 = (ii 0))).symm with c9 | c9
      · replace hf := if_f hf c9
        have hm := zX6_term_rX20_b32 hrz ih hf
        exact ⟨by omega, by omega⟩
      · replace hf := if_t hf c9
        replace hf := bs hf; obtain ⟨a10, ha10, hf⟩ := hf
        replace hf := bs hf; obtain ⟨r11, hk_12, hf⟩ := hf
        rcases (Decidable.em (r11 = (ii 0))) with c13 | c13
        · replace hf := if_t hf c13
          cases hf
          exact ⟨Nat.le_refl _, Nat.le_refl _⟩
        · replace hf := if_f hf c13
          have hm := zX6_term_rX20_b32 hrz ih hf
          exact ⟨by omega, by omega⟩
set_option maxHeartbeats 400000 in
set_option maxRecDepth 100000 in
theorem wX6_term_rX20_b5 {nf : Nat} {fd ld : Nat} {rc : (Nat → Option Nat) → xT → xT → Nat → Nat → xI → xL → xR → Nat → Option ((Nat ⊕ Nat) × xT × xT × Nat × Nat × xI × xR)} {kc ks : Nat} {p : Program} {l : Launch} {e : Env} {s : State} {m : MethodId} {args : Array Value} {below : List Frame} {meth : Method} {c : Code} {D : va_G} {dA : Nat → ClassId} {s0 : Nat} {L : xL}  {ro : (Nat ⊕ Nat)} {To : xT} {No : xT} {Zo : Nat} {So : Nat} {Io : xI} {Ro : xR} (X : Cx D dA s0 p m c cX6_term 3 s args RX6 meth) (hr : meth.sig.returnType = (some (.object "LostLanes$Sum"))) (htE : c.exceptionTable.toList = []) (hrc : Con_X6_sum_rX20 l D dA s0 fd ld rc) (hrz : Mon_X6_sum_rX20 rc)    (k : Nat) : ∀ {T : xT} {N : xT} {Z : Nat} {S : Nat} {I : xI} {R : xR} {x0 : Nat} {x1 : Nat} {H : Heap} {locs : List Loc} {ls : Array Slot} {cells slots : Nat} , fX6_term_rX20_b5 nf rc (sv dA) L k T N Z S I R x0 x1 = some (ro, To, No, Zo, So, Io, Ro) → Iv D dA s0 s T N Z I L R H locs → lv_has ls 3 [(0, .ref x0), (1, .ref x1)] → cells + (Zo - Z) ≤ kc ∧ slots + (So - S) ≤ ks → W p l e { frames := fd + 9, cells := kc, slots := ks, locals := ld + 192 } s m args below meth c H locs cells slots (vx_MQ below (yQ D dA s0 (rA_ ro) To No Zo Io L Ro) (yX D dA s0 (rA_ ro) To No Zo Io L Ro) args s kc ks (fun q => s0 ≤ q)) (F0 m 5 ls []) := by
  have hx := X.1.1
  have hb := X.1.2.1
  induction k with
  | zero =>
    intro T N Z S I R x0 x1 H locs ls cells slots hf V hl hB
    exact absurd (show none = some _ from hf) (fun q => nomatch q)
  | succ k ih =>
    intro T N Z S I R x0 x1 H locs ls cells slots hf V hl hB
    have ihm : ∀ {T : xT} {N : xT} {Z : Nat} {S : Nat} {I : xI} {R : xR} {x0 : Nat} {x1 : Nat}, fX6_term_rX20_b5 nf rc (sv dA) L k T N Z S I R x0 x1 = some (ro, To, No, Zo, So, Io, Ro) → Z ≤ Zo ∧ S ≤ So := zX6_term_rX20_b5 hrz k
    rw [fX6_term_rX20_b5] at hf
    refine lv_aload_n (pc := 5) hx hb dX6_term_5 rfl (lv_at hl 0 rfl) ?_
    replace hf := bs hf; obtain ⟨a1, ha1, hf⟩ := hf
    refine x_ldcS (pc := 6) X 21 rfl ha1 dX6_term_6 ?_
    replace hf := tg_s hf; obtain ⟨ht4, hf⟩ := hf
    replace hf := bs hf; obtain ⟨r2, hk_3, hf⟩ := hf
    refine x_callU (pc := 8) (As := [.ref a1]) (rest := []) X V (mX6_is_rX20 l D dA s0 hk_3) okX20 ht4 q916 q2222 q2224 q799 q133 q800 rfl hsX6_is_rX20 ⟨by dsimp only; omega, by dsimp only; omega⟩ rfl hl.1 rfl (Nat.le_of_ble_eq_true rfl) dX6_term_8 ⟨by show cells ≤ kc; omega, by show slots ≤ ks; omega⟩ (fun H locs V => W.eq (g2 := F0 m 11 ls [.int r2]) rfl ?_)
    refine lv_if_ne (pc := 11) (tgt := 32) hx hb dX6_term_11 (by decide) (fun c5 => ?_) (fun c5 => ?_)
    · replace hf := if_f hf c5
      exact wX6_term_rX20_b32 X hr htE hrc hrz ih ihm hf V (lv_sub hl [0, 1] rfl) ⟨by omega, by omega⟩
    · replace hf := if_t hf c5
      refine lv_aload_n (pc := 14) hx hb dX6_term_14 rfl (lv_at hl 0 rfl) ?_
      replace hf := bs hf; obtain ⟨a6, ha6, hf⟩ := hf
      refine x_ldcS (pc := 15) X 22 rfl ha6 dX6_term_15 ?_
      replace hf := bs hf; obtain ⟨r7, hk_8, hf⟩ := hf
      refine x_callU (pc := 17) (As := [.ref a6]) (rest := []) X V (mX6_is_rX20 l D dA s0 hk_8) okX20 ht4 q916 q2222 q2224 q799 q133 q800 rfl hsX6_is_rX20 ⟨by dsimp only; omega, by dsimp only; omega⟩ rfl hl.1 rfl (Nat.le_of_ble_eq_true rfl) dX6_term_17 ⟨by show cells ≤ kc; omega, by show slots ≤ ks; omega⟩ (fun H locs V => W.eq (g2 := F0 m 20 ls [.int r7]) rfl ?_)
      refine lv_if_ne (pc := 20) (tgt := 32) hx hb dX6_term_20 (by decide) (fun c9 => ?_) (fun c9 => ?_)
      · replace hf := if_f hf c9
        exact wX6_term_rX20_b32 X hr htE hrc hrz ih ihm hf V (lv_sub hl [0, 1] rfl) ⟨by omega, by omega⟩
      · replace hf := if_t hf c9
        refine lv_aload_n (pc := 23) hx hb dX6_term_23 rfl (lv_at hl 0 rfl) ?_
        replace hf := bs hf; obtain ⟨a10, ha10, hf⟩ := hf
        refine x_ldcS (pc := 24) X 23 rfl ha10 dX6_term_24 ?_
        replace hf := bs hf; obtain ⟨r11, hk_12, hf⟩ := hf
        refine x_callU (pc := 26) (As := [.ref a10]) (rest := []) X V (mX6_is_rX20 l D dA s0 hk_12) okX20 ht4 q916 q2222 q2224 q799 q133 q800 rfl hsX6_is_rX20 ⟨by dsimp only; omega, by dsimp only; omega⟩ rfl hl.1 rfl (Nat.le_of_ble_eq_true rfl) dX6_term_26 ⟨by show cells ≤ kc; omega, by show slots ≤ ks; omega⟩ (fun H locs V => W.eq (g2 := F0 m 29 ls [.int r11]) rfl ?_)
        refine lv_if_eq (pc := 29) (tgt := 64) hx hb dX6_term_29 (by decide) (fun c13 => ?_) (fun c13 => ?_)
        · replace hf := if_t hf c13
          refine lv_aload_n (pc := 64) hx hb dX6_term_64 rfl (lv_at hl 1 rfl) ?_
          cases hf
          exact y_aret (pc := 65) X V hr (by omega) (by omega) (Or.inl ⟨_, rfl⟩) dX6_term_65
        · replace hf := if_f hf c13
          exact wX6_term_rX20_b32 X hr htE hrc hrz ih ihm hf V (lv_sub hl [0, 1] rfl) ⟨by omega, by omega⟩
set_option maxHeartbeats 400000 in
set_option maxRecDepth 100000 in
theorem zX6_term_rX20_b4 {nf : Nat} {rc : (Nat → Option Nat) → xT → xT → Nat → Nat → xI → xL → xR → Nat → Option ((Nat ⊕ Nat) × xT × xT × Nat × Nat × xI × xR)} {dA : Nat → ClassId} {T : xT} {N : xT} {Z : Nat} {S : Nat} {I : xI} {L : xL} {R : xR}  {x0 : Nat} {z0 : Nat} {ro : (Nat ⊕ Nat)} {To : xT} {No : xT} {Zo : Nat} {So : Nat} {Io : xI} {Ro : xR} (hrz : Mon_X6_sum_rX20 rc)  (hf : fX6_term_rX20_b4 nf rc (sv dA) T N Z S I L R x0 z0 = some (ro, To, No, Zo, So, Io, Ro)) : Z ≤ Zo ∧ S ≤ So := by
  unfold fX6_term_rX20_b4 at hf
  have hm := zX6_term_rX20_b5 hrz nf hf
  exact ⟨by omega, by omega⟩
set_option maxHeartbeats 400000 in
set_option maxRecDepth 100000 in
theorem wX6_term_rX20_b4 {nf : Nat} {fd ld : Nat} {rc : (Nat → Option Nat) → xT → xT → Nat → Nat → xI → xL → xR → Nat → Option ((Nat ⊕ Nat) × xT × xT × Nat × Nat × xI × xR)} {kc ks : Nat} {cells slots : Nat} {p : Program} {l : Launch} {e : Env} {s : State} {m : MethodId} {args : Array Value} {below : List Frame} {meth : Method} {c : Code} {D : va_G} {dA : Nat → ClassId} {s0 : Nat} {T : xT} {N : xT} {Z : Nat} {S : Nat} {I : xI} {L : xL} {R : xR} {H : Heap} {locs : List Loc} {ls : Array Slot}  {x0 : Nat} {z0 : Nat} {ro : (Nat ⊕ Nat)} {To : xT} {No : xT} {Zo : Nat} {So : Nat} {Io : xI} {Ro : xR} (X : Cx D dA s0 p m c cX6_term 3 s args RX6 meth) (hr : meth.sig.returnType = (some (.object "LostLanes$Sum"))) (htE : c.exceptionTable.toList = []) (hrc : Con_X6_sum_rX20 l D dA s0 fd ld rc) (hrz : Mon_X6_sum_rX20 rc)    (hf : fX6_term_rX20_b4 nf rc (sv dA) T N Z S I L R x0 z0 = some (ro, To, No, Zo, So, Io, Ro)) (V : Iv D dA s0 s T N Z I L R H locs) (hl : lv_has ls 3 [(0, .ref x0)]) (hB : cells + (Zo - Z) ≤ kc ∧ slots + (So - S) ≤ ks) : W p l e { frames := fd + 9, cells := kc, slots := ks, locals := ld + 192 } s m args below meth c H locs cells slots (vx_MQ below (yQ D dA s0 (rA_ ro) To No Zo Io L Ro) (yX D dA s0 (rA_ ro) To No Zo Io L Ro) args s kc ks (fun q => s0 ≤ q)) (F0 m 4 ls [.ref z0]) := by
  have hx := X.1.1
  have hb := X.1.2.1
  unfold fX6_term_rX20_b4 at hf
  refine lv_astore_n (pc := 4) (lv' := [(1, .ref z0), (0, .ref x0)]) hx hb dX6_term_4 rfl hl (by decide) rfl (fun ls hl => ?_)
  exact wX6_term_rX20_b5 X hr htE hrc hrz nf hf V (lv_sub hl [1, 0] rfl) ⟨by omega, by omega⟩
set_option maxHeartbeats 400000 in
set_option maxRecDepth 100000 in
theorem zX6_term_rX20 {nf : Nat} {rc : (Nat → Option Nat) → xT → xT → Nat → Nat → xI → xL → xR → Nat → Option ((Nat ⊕ Nat) × xT × xT × Nat × Nat × xI × xR)} {dA : Nat → ClassId} {T : xT} {N : xT} {Z : Nat} {S : Nat} {I : xI} {L : xL} {R : xR} {x0 : Nat} {ro : (Nat ⊕ Nat)} {To : xT} {No : xT} {Zo : Nat} {So : Nat} {Io : xI} {Ro : xR} (hrz : Mon_X6_sum_rX20 rc) (hf : fX6_term_rX20 nf rc (sv dA) T N Z S I L R x0 = some (ro, To, No, Zo, So, Io, Ro)) : Z ≤ Zo ∧ S ≤ So := by
  unfold fX6_term_rX20 at hf
  replace hf := tg_s hf; obtain ⟨ht9, hf⟩ := hf
  replace hf := b7s hf; obtain ⟨r1, T2, N3, Z4, S5, I6, R7, hk_8, hf⟩ := hf
  have hm_hk_8 := zX6_part_rX20 hrz hk_8
  replace hf := xc_s hf; rcases hf with ⟨a10, hr_12, hf⟩ | ⟨v11, hr_12, hf⟩
  · skip
    replace hf := tg_s hf; obtain ⟨ht13, hf⟩ := hf
    cases hf
    exact ⟨by omega, by omega⟩
  · skip
    have hm := zX6_term_rX20_b4 hrz hf
    exact ⟨by omega, by omega⟩
set_option maxHeartbeats 400000 in
set_option maxRecDepth 100000 in
theorem wX6_term_rX20_e {nf : Nat} {fd ld : Nat} {rc : (Nat → Option Nat) → xT → xT → Nat → Nat → xI → xL → xR → Nat → Option ((Nat ⊕ Nat) × xT × xT × Nat × Nat × xI × xR)} {kc ks : Nat} {cells slots : Nat} {p : Program} {l : Launch} {e : Env} {s : State} {m : MethodId} {args : Array Value} {below : List Frame} {meth : Method} {c : Code} {D : va_G} {dA : Nat → ClassId} {s0 : Nat} {T : xT} {N : xT} {Z : Nat} {S : Nat} {I : xI} {L : xL} {R : xR} {H : Heap} {locs : List Loc} {ls : Array Slot} {x0 : Nat} {ro : (Nat ⊕ Nat)} {To : xT} {No : xT} {Zo : Nat} {So : Nat} {Io : xI} {Ro : xR} (X : Cx D dA s0 p m c cX6_term 3 s args RX6 meth) (hr : meth.sig.returnType = (some (.object "LostLanes$Sum"))) (htE : c.exceptionTable.toList = []) (hrc : Con_X6_sum_rX20 l D dA s0 fd ld rc) (hrz : Mon_X6_sum_rX20 rc)  (hf : fX6_term_rX20 nf rc (sv dA) T N Z S I L R x0 = some (ro, To, No, Zo, So, Io, Ro)) (V : Iv D dA s0 s T N Z I L R H locs) (hl : lv_has ls 3 [(0, .ref x0)]) (hB : cells + (Zo - Z) ≤ kc ∧ slots + (So - S) ≤ ks) : W p l e { frames := fd + 9, cells := kc, slots := ks, locals := ld + 192 } s m args below meth c H locs cells slots (vx_MQ below (yQ D dA s0 (rA_ ro) To No Zo Io L Ro) (yX D dA s0 (rA_ ro) To No Zo Io L Ro) args s kc ks (fun q => s0 ≤ q)) (F0 m 0 ls []) := by
  have hx := X.1.1
  have hb := X.1.2.1
  unfold fX6_term_rX20 at hf
  refine lv_aload_n (pc := 0) hx hb dX6_term_0 rfl (lv_at hl 0 rfl) ?_
  replace hf := tg_s hf; obtain ⟨ht9, hf⟩ := hf
  replace hf := b7s hf; obtain ⟨r1, T2, N3, Z4, S5, I6, R7, hk_8, hf⟩ := hf
  have hm_hk_8 := zX6_part_rX20 hrz hk_8
  replace hf := xc_s hf; rcases hf with ⟨a10, hr_12, hf⟩ | ⟨v11, hr_12, hf⟩
  · rw [hr_12] at hk_8
    replace hf := tg_s hf; obtain ⟨ht13, hf⟩ := hf
    have hzE : Z4 = Zo := by cases hf; rfl
    have hsE : S5 = So := by cases hf; rfl
    refine y_afterX (y_runU (pc := 1) (As := []) (rest := []) X V (mX6_part_rX20 l D dA s0 hrc hrz (kc := Z4 - Z) (ks := S5 - S) (Nat.le_refl _) (Nat.le_refl _) hk_8) okX20 ht9 q909 q911 q913 q910 q133 q914 rfl hsX6_part_rX20 ⟨by dsimp only; omega, by dsimp only; omega⟩ rfl hl.1 rfl (Nat.le_of_ble_eq_true rfl) dX6_term_1 ⟨by show _ ≤ kc; omega, by show _ ≤ ks; omega⟩) V (fun H locs V => ?_)
    cases hf
    exact y_out X V htE okX8 ht13 (by omega) (by omega)
  · rw [hr_12] at hk_8
    have hm := zX6_term_rX20_b4 hrz hf
    refine y_afterR (y_runU (pc := 1) (As := []) (rest := []) X V (mX6_part_rX20 l D dA s0 hrc hrz (kc := Z4 - Z) (ks := S5 - S) (Nat.le_refl _) (Nat.le_refl _) hk_8) okX20 ht9 q909 q911 q913 q910 q133 q914 rfl hsX6_part_rX20 ⟨by dsimp only; omega, by dsimp only; omega⟩ rfl hl.1 rfl (Nat.le_of_ble_eq_true rfl) dX6_term_1 ⟨by show _ ≤ kc; omega, by show _ ≤ ks; omega⟩) V (fun H locs V => W.eq (g2 := F0 m 4 ls [.ref v11]) rfl ?_)
    exact wX6_term_rX20_b4 X hr htE hrc hrz hf V (lv_sub hl [0] rfl) ⟨by omega, by omega⟩
theorem mX6_term_rX20 {nf : Nat} {fd ld : Nat} {rc : (Nat → Option Nat) → xT → xT → Nat → Nat → xI → xL → xR → Nat → Option ((Nat ⊕ Nat) × xT × xT × Nat × Nat × xI × xR)} (l : Launch) (D : va_G) (dA : Nat → ClassId) (s0 : Nat) {kc ks : Nat} {T : xT} {N : xT} {Z : Nat} {S : Nat} {I : xI} {L : xL} {R : xR} {x0 : Nat} {ro : (Nat ⊕ Nat)} {To : xT} {No : xT} {Zo : Nat} {So : Nat} {Io : xI} {Ro : xR} (hrc : Con_X6_sum_rX20 l D dA s0 fd ld rc) (hrz : Mon_X6_sum_rX20 rc) (hZ : Zo - Z ≤ kc) (hS : So - S ≤ ks) (hf : fX6_term_rX20 nf rc (sv dA) T N Z S I L R x0 = some (ro, To, No, Zo, So, Io, Ro)) : YMet l D dA s0 yX6_term (ws_ yX6_term cX6_term 3 ((some (.object "LostLanes$Sum")))) (fd + 9) (ld + 192) [.ref x0] T N Z I L R (rA_ ro) To No Zo Io L Ro kc ks :=
  y_start (own := RX6) rfl (by decide) (Nat.le_of_ble_eq_true rfl) (lv := [(0, .ref x0)]) rfl (fun p e s m below meth c ls X hr htE V hl => wX6_term_rX20_e X hr htE hrc hrz hf V hl ⟨by omega, by omega⟩)
set_option maxHeartbeats 400000 in
set_option maxRecDepth 100000 in
theorem zX6_sum_rX20_b48 {nf : Nat} {rc : (Nat → Option Nat) → xT → xT → Nat → Nat → xI → xL → xR → Nat → Option ((Nat ⊕ Nat) × xT × xT × Nat × Nat × xI × xR)} {dA : Nat → ClassId} {T : xT} {N : xT} {Z : Nat} {S : Nat} {I : xI} {L : xL} {R : xR} {kk5 : xT → xT → Nat → Nat → xI → xR → Nat → Nat → Option ((Nat ⊕ Nat) × xT × xT × Nat × Nat × xI × xR)} {x0 : Nat} {z0 : Nat} {z1 : Nat} {z2 : Int32} {z3 : Nat} {z4 : Nat} {ro : (Nat ⊕ Nat)} {To : xT} {No : xT} {Zo : Nat} {So : Nat} {Io : xI} {Ro : xR} (hrz : Mon_X6_sum_rX20 rc) (hm5 : ∀ {T : xT} {N : xT} {Z : Nat} {S : Nat} {I : xI} {R : xR} {x0 : Nat} {x1 : Nat}, kk5 T N Z S I R x0 x1 = some (ro, To, No, Zo, So, Io, Ro) → Z ≤ Zo ∧ S ≤ So) (hf : fX6_sum_rX20_b48 nf rc kk5 (sv dA) T N Z S I L R x0 z0 z1 z2 z3 z4 = some (ro, To, No, Zo, So, Io, Ro)) : Z ≤ Zo ∧ S ≤ So := by
  unfold fX6_sum_rX20_b48 at hf
  replace hf := b2s hf; obtain ⟨I1, R2, hk_3, hf⟩ := hf
  have hm := hm5 hf
  exact ⟨by omega, by omega⟩
set_option maxHeartbeats 400000 in
set_option maxRecDepth 100000 in
theorem wX6_sum_rX20_b48 {nf : Nat} {fd ld : Nat} {rc : (Nat → Option Nat) → xT → xT → Nat → Nat → xI → xL → xR → Nat → Option ((Nat ⊕ Nat) × xT × xT × Nat × Nat × xI × xR)} {kc ks : Nat} {cells slots : Nat} {p : Program} {l : Launch} {e : Env} {s : State} {m : MethodId} {args : Array Value} {below : List Frame} {meth : Method} {c : Code} {D : va_G} {dA : Nat → ClassId} {s0 : Nat} {T : xT} {N : xT} {Z : Nat} {S : Nat} {I : xI} {L : xL} {R : xR} {H : Heap} {locs : List Loc} {ls : Array Slot} {kk5 : xT → xT → Nat → Nat → xI → xR → Nat → Nat → Option ((Nat ⊕ Nat) × xT × xT × Nat × Nat × xI × xR)} {x0 : Nat} {z0 : Nat} {z1 : Nat} {z2 : Int32} {z3 : Nat} {z4 : Nat} {ro : (Nat ⊕ Nat)} {To : xT} {No : xT} {Zo : Nat} {So : Nat} {Io : xI} {Ro : xR} (X : Cx D dA s0 p m c cX6_sum 3 s args RX6 meth) (hr : meth.sig.returnType = (some (.object "LostLanes$Sum"))) (htE : c.exceptionTable.toList = []) (hrc : Con_X6_sum_rX20 l D dA s0 fd ld rc) (hrz : Mon_X6_sum_rX20 rc)  (hk5 : ∀ {T : xT} {N : xT} {Z : Nat} {S : Nat} {I : xI} {R : xR} {x0 : Nat} {x1 : Nat} {H : Heap} {locs : List Loc} {ls : Array Slot} {cells slots : Nat} , kk5 T N Z S I R x0 x1 = some (ro, To, No, Zo, So, Io, Ro) → Iv D dA s0 s T N Z I L R H locs → lv_has ls 3 [(0, .ref x0), (1, .ref x1)] → cells + (Zo - Z) ≤ kc ∧ slots + (So - S) ≤ ks → W p l e { frames := fd + 10, cells := kc, slots := ks, locals := ld + 214 } s m args below meth c H locs cells slots (vx_MQ below (yQ D dA s0 (rA_ ro) To No Zo Io L Ro) (yX D dA s0 (rA_ ro) To No Zo Io L Ro) args s kc ks (fun q => s0 ≤ q)) (F0 m 5 ls [])) (hm5 : ∀ {T : xT} {N : xT} {Z : Nat} {S : Nat} {I : xI} {R : xR} {x0 : Nat} {x1 : Nat}, kk5 T N Z S I R x0 x1 = some (ro, To, No, Zo, So, Io, Ro) → Z ≤ Zo ∧ S ≤ So) (hf : fX6_sum_rX20_b48 nf rc kk5 (sv dA) T N Z S I L R x0 z0 z1 z2 z3 z4 = some (ro, To, No, Zo, So, Io, Ro)) (V : Iv D dA s0 s T N Z I L R H locs) (hl : lv_has ls 3 [(0, .ref x0)]) (hB : cells + (Zo - Z) ≤ kc ∧ slots + (So - S) ≤ ks) : W p l e { frames := fd + 10, cells := kc, slots := ks, locals := ld + 214 } s m args below meth c H locs cells slots (vx_MQ below (yQ D dA s0 (rA_ ro) To No Zo Io L Ro) (yX D dA s0 (rA_ ro) To No Zo Io L Ro) args s kc ks (fun q => s0 ≤ q)) (F0 m 48 ls [.ref z4, .ref z3, .int z2, .ref z1, .ref z0]) := by
  have hx := X.1.1
  have hb := X.1.2.1
  unfold fX6_sum_rX20_b48 at hf
  replace hf := b2s hf; obtain ⟨I1, R2, hk_3, hf⟩ := hf
  refine x_callI0 (pc := 48) (As := [.int z2, .ref z3, .ref z4]) (rest := [.ref z0]) X V (mX13_init l D dA s0 hk_3) q1015 q1016 q143 q1017 rfl hsX13_init ⟨by dsimp only; omega, by dsimp only; omega⟩ rfl hl.1 rfl (Nat.le_of_ble_eq_true rfl) dX6_sum_48 ⟨by show cells ≤ kc; omega, by show slots ≤ ks; omega⟩ (fun H locs V => W.eq (g2 := F0 m 51 ls [.ref z0]) rfl ?_)
  refine lv_astore_n (pc := 51) (lv' := [(1, .ref z0), (0, .ref x0)]) hx hb dX6_sum_51 rfl hl (by decide) rfl (fun ls hl => ?_)
  refine lv_goto (pc := 52) (tgt := 5) hx hb dX6_sum_52 (by decide) ?_
  exact hk5 hf V (lv_sub hl [1, 0] rfl) ⟨by omega, by omega⟩
set_option maxHeartbeats 400000 in
set_option maxRecDepth 100000 in
theorem zX6_sum_rX20_b41 {nf : Nat} {rc : (Nat → Option Nat) → xT → xT → Nat → Nat → xI → xL → xR → Nat → Option ((Nat ⊕ Nat) × xT × xT × Nat × Nat × xI × xR)} {dA : Nat → ClassId} {T : xT} {N : xT} {Z : Nat} {S : Nat} {I : xI} {L : xL} {R : xR} {kk5 : xT → xT → Nat → Nat → xI → xR → Nat → Nat → Option ((Nat ⊕ Nat) × xT × xT × Nat × Nat × xI × xR)} {x0 : Nat} {x1 : Nat} {x2 : Int32} {z0 : Nat} {ro : (Nat ⊕ Nat)} {To : xT} {No : xT} {Zo : Nat} {So : Nat} {Io : xI} {Ro : xR} (hrz : Mon_X6_sum_rX20 rc) (hm5 : ∀ {T : xT} {N : xT} {Z : Nat} {S : Nat} {I : xI} {R : xR} {x0 : Nat} {x1 : Nat}, kk5 T N Z S I R x0 x1 = some (ro, To, No, Zo, So, Io, Ro) → Z ≤ Zo ∧ S ≤ So) (hf : fX6_sum_rX20_b41 nf rc kk5 (sv dA) T N Z S I L R x0 x1 x2 z0 = some (ro, To, No, Zo, So, Io, Ro)) : Z ≤ Zo ∧ S ≤ So := by
  unfold fX6_sum_rX20_b41 at hf
  replace hf := tg_s hf; obtain ⟨ht9, hf⟩ := hf
  replace hf := b7s hf; obtain ⟨r1, T2, N3, Z4, S5, I6, R7, hk_8, hf⟩ := hf
  have hm_hk_8 := zX6_term_rX20 hrz hk_8
  replace hf := xc_s hf; rcases hf with ⟨a10, hr_12, hf⟩ | ⟨v11, hr_12, hf⟩
  · skip
    replace hf := tg_s hf; obtain ⟨ht13, hf⟩ := hf
    cases hf
    exact ⟨by omega, by omega⟩
  · skip
    have hm := zX6_sum_rX20_b48 hrz hm5 hf
    exact ⟨by omega, by omega⟩
set_option maxHeartbeats 400000 in
set_option maxRecDepth 100000 in
theorem wX6_sum_rX20_b41 {nf : Nat} {fd ld : Nat} {rc : (Nat → Option Nat) → xT → xT → Nat → Nat → xI → xL → xR → Nat → Option ((Nat ⊕ Nat) × xT × xT × Nat × Nat × xI × xR)} {kc ks : Nat} {cells slots : Nat} {p : Program} {l : Launch} {e : Env} {s : State} {m : MethodId} {args : Array Value} {below : List Frame} {meth : Method} {c : Code} {D : va_G} {dA : Nat → ClassId} {s0 : Nat} {T : xT} {N : xT} {Z : Nat} {S : Nat} {I : xI} {L : xL} {R : xR} {H : Heap} {locs : List Loc} {ls : Array Slot} {kk5 : xT → xT → Nat → Nat → xI → xR → Nat → Nat → Option ((Nat ⊕ Nat) × xT × xT × Nat × Nat × xI × xR)} {x0 : Nat} {x1 : Nat} {x2 : Int32} {z0 : Nat} {ro : (Nat ⊕ Nat)} {To : xT} {No : xT} {Zo : Nat} {So : Nat} {Io : xI} {Ro : xR} (X : Cx D dA s0 p m c cX6_sum 3 s args RX6 meth) (hr : meth.sig.returnType = (some (.object "LostLanes$Sum"))) (htE : c.exceptionTable.toList = []) (hrc : Con_X6_sum_rX20 l D dA s0 fd ld rc) (hrz : Mon_X6_sum_rX20 rc)  (hk5 : ∀ {T : xT} {N : xT} {Z : Nat} {S : Nat} {I : xI} {R : xR} {x0 : Nat} {x1 : Nat} {H : Heap} {locs : List Loc} {ls : Array Slot} {cells slots : Nat} , kk5 T N Z S I R x0 x1 = some (ro, To, No, Zo, So, Io, Ro) → Iv D dA s0 s T N Z I L R H locs → lv_has ls 3 [(0, .ref x0), (1, .ref x1)] → cells + (Zo - Z) ≤ kc ∧ slots + (So - S) ≤ ks → W p l e { frames := fd + 10, cells := kc, slots := ks, locals := ld + 214 } s m args below meth c H locs cells slots (vx_MQ below (yQ D dA s0 (rA_ ro) To No Zo Io L Ro) (yX D dA s0 (rA_ ro) To No Zo Io L Ro) args s kc ks (fun q => s0 ≤ q)) (F0 m 5 ls [])) (hm5 : ∀ {T : xT} {N : xT} {Z : Nat} {S : Nat} {I : xI} {R : xR} {x0 : Nat} {x1 : Nat}, kk5 T N Z S I R x0 x1 = some (ro, To, No, Zo, So, Io, Ro) → Z ≤ Zo ∧ S ≤ So) (hf : fX6_sum_rX20_b41 nf rc kk5 (sv dA) T N Z S I L R x0 x1 x2 z0 = some (ro, To, No, Zo, So, Io, Ro)) (V : Iv D dA s0 s T N Z I L R H locs) (hl : lv_has ls 3 [(0, .ref x0), (1, .ref x1), (2, .int x2)]) (hB : cells + (Zo - Z) ≤ kc ∧ slots + (So - S) ≤ ks) : W p l e { frames := fd + 10, cells := kc, slots := ks, locals := ld + 214 } s m args below meth c H locs cells slots (vx_MQ below (yQ D dA s0 (rA_ ro) To No Zo Io L Ro) (yX D dA s0 (rA_ ro) To No Zo Io L Ro) args s kc ks (fun q => s0 ≤ q)) (F0 m 41 ls [.ref z0]) := by
  have hx := X.1.1
  have hb := X.1.2.1
  unfold fX6_sum_rX20_b41 at hf
  refine lv_dup (pc := 41) hx hb dX6_sum_41 rfl ?_
  refine lv_iload_n (pc := 42) hx hb dX6_sum_42 rfl (lv_at hl 2 rfl) ?_
  refine lv_aload_n (pc := 43) hx hb dX6_sum_43 rfl (lv_at hl 1 rfl) ?_
  refine lv_aload_n (pc := 44) hx hb dX6_sum_44 rfl (lv_at hl 0 rfl) ?_
  replace hf := tg_s hf; obtain ⟨ht9, hf⟩ := hf
  replace hf := b7s hf; obtain ⟨r1, T2, N3, Z4, S5, I6, R7, hk_8, hf⟩ := hf
  have hm_hk_8 := zX6_term_rX20 hrz hk_8
  replace hf := xc_s hf; rcases hf with ⟨a10, hr_12, hf⟩ | ⟨v11, hr_12, hf⟩
  · rw [hr_12] at hk_8
    replace hf := tg_s hf; obtain ⟨ht13, hf⟩ := hf
    have hzE : Z4 = Zo := by cases hf; rfl
    have hsE : S5 = So := by cases hf; rfl
    refine y_afterX (y_runU (pc := 45) (As := []) (rest := [.ref x1, .int x2, .ref z0, .ref z0]) X V (mX6_term_rX20 l D dA s0 hrc hrz (kc := Z4 - Z) (ks := S5 - S) (Nat.le_refl _) (Nat.le_refl _) hk_8) okX20 ht9 q903 q905 q907 q904 q133 q908 rfl hsX6_term_rX20 ⟨by dsimp only; omega, by dsimp only; omega⟩ rfl hl.1 rfl (Nat.le_of_ble_eq_true rfl) dX6_sum_45 ⟨by show _ ≤ kc; omega, by show _ ≤ ks; omega⟩) V (fun H locs V => ?_)
    cases hf
    exact y_out X V htE okX8 ht13 (by omega) (by omega)
  · rw [hr_12] at hk_8
    have hm := zX6_sum_rX20_b48 hrz hm5 hf
    refine y_afterR (y_runU (pc := 45) (As := []) (rest := [.ref x1, .int x2, .ref z0, .ref z0]) X V (mX6_term_rX20 l D dA s0 hrc hrz (kc := Z4 - Z) (ks := S5 - S) (Nat.le_refl _) (Nat.le_refl _) hk_8) okX20 ht9 q903 q905 q907 q904 q133 q908 rfl hsX6_term_rX20 ⟨by dsimp only; omega, by dsimp only; omega⟩ rfl hl.1 rfl (Nat.le_of_ble_eq_true rfl) dX6_sum_45 ⟨by show _ ≤ kc; omega, by show _ ≤ ks; omega⟩) V (fun H locs V => W.eq (g2 := F0 m 48 ls [.ref v11, .ref x1, .int x2, .ref z0, .ref z0]) rfl ?_)
    exact wX6_sum_rX20_b48 X hr htE hrc hrz hk5 hm5 hf V (lv_sub hl [0] rfl) ⟨by omega, by omega⟩
set_option maxHeartbeats 400000 in
set_option maxRecDepth 100000 in
theorem zX6_sum_rX20_b23 {nf : Nat} {rc : (Nat → Option Nat) → xT → xT → Nat → Nat → xI → xL → xR → Nat → Option ((Nat ⊕ Nat) × xT × xT × Nat × Nat × xI × xR)} {dA : Nat → ClassId} {T : xT} {N : xT} {Z : Nat} {S : Nat} {I : xI} {L : xL} {R : xR} {kk5 : xT → xT → Nat → Nat → xI → xR → Nat → Nat → Option ((Nat ⊕ Nat) × xT × xT × Nat × Nat × xI × xR)} {x0 : Nat} {x1 : Nat} {ro : (Nat ⊕ Nat)} {To : xT} {No : xT} {Zo : Nat} {So : Nat} {Io : xI} {Ro : xR} (hrz : Mon_X6_sum_rX20 rc) (hm5 : ∀ {T : xT} {N : xT} {Z : Nat} {S : Nat} {I : xI} {R : xR} {x0 : Nat} {x1 : Nat}, kk5 T N Z S I R x0 x1 = some (ro, To, No, Zo, So, Io, Ro) → Z ≤ Zo ∧ S ≤ So) (hf : fX6_sum_rX20_b23 nf rc kk5 (sv dA) T N Z S I L R x0 x1 = some (ro, To, No, Zo, So, Io, Ro)) : Z ≤ Zo ∧ S ≤ So := by
  unfold fX6_sum_rX20_b23 at hf
  replace hf := tg_s hf; obtain ⟨ht1, hf⟩ := hf
  replace hf := bs hf; obtain ⟨a2, ha2, hf⟩ := hf
  replace hf := rA_s hf; obtain ⟨j3, hjj3, htj3, hij3, hf⟩ := hf
  replace hf := nm_s hf; obtain ⟨u4, hu4, hf⟩ := hf
  replace hf := bs hf; obtain ⟨I5, hk_6, hf⟩ := hf
  replace hf := nm_s hf; obtain ⟨T7, hT7, hf⟩ := hf
  replace hf := nm_s hf; obtain ⟨Z8, hZ8, hf⟩ := hf
  replace hf := nm_s hf; obtain ⟨S9, hS9, hf⟩ := hf
  have hm := zX6_sum_rX20_b41 hrz hm5 hf
  exact ⟨by omega, by omega⟩
set_option maxHeartbeats 400000 in
set_option maxRecDepth 100000 in
theorem wX6_sum_rX20_b23 {nf : Nat} {fd ld : Nat} {rc : (Nat → Option Nat) → xT → xT → Nat → Nat → xI → xL → xR → Nat → Option ((Nat ⊕ Nat) × xT × xT × Nat × Nat × xI × xR)} {kc ks : Nat} {cells slots : Nat} {p : Program} {l : Launch} {e : Env} {s : State} {m : MethodId} {args : Array Value} {below : List Frame} {meth : Method} {c : Code} {D : va_G} {dA : Nat → ClassId} {s0 : Nat} {T : xT} {N : xT} {Z : Nat} {S : Nat} {I : xI} {L : xL} {R : xR} {H : Heap} {locs : List Loc} {ls : Array Slot} {kk5 : xT → xT → Nat → Nat → xI → xR → Nat → Nat → Option ((Nat ⊕ Nat) × xT × xT × Nat × Nat × xI × xR)} {x0 : Nat} {x1 : Nat} {ro : (Nat ⊕ Nat)} {To : xT} {No : xT} {Zo : Nat} {So : Nat} {Io : xI} {Ro : xR} (X : Cx D dA s0 p m c cX6_sum 3 s args RX6 meth) (hr : meth.sig.returnType = (some (.object "LostLanes$Sum"))) (htE : c.exceptionTable.toList = []) (hrc : Con_X6_sum_rX20 l D dA s0 fd ld rc) (hrz : Mon_X6_sum_rX20 rc)  (hk5 : ∀ {T : xT} {N : xT} {Z : Nat} {S : Nat} {I : xI} {R : xR} {x0 : Nat} {x1 : Nat} {H : Heap} {locs : List Loc} {ls : Array Slot} {cells slots : Nat} , kk5 T N Z S I R x0 x1 = some (ro, To, No, Zo, So, Io, Ro) → Iv D dA s0 s T N Z I L R H locs → lv_has ls 3 [(0, .ref x0), (1, .ref x1)] → cells + (Zo - Z) ≤ kc ∧ slots + (So - S) ≤ ks → W p l e { frames := fd + 10, cells := kc, slots := ks, locals := ld + 214 } s m args below meth c H locs cells slots (vx_MQ below (yQ D dA s0 (rA_ ro) To No Zo Io L Ro) (yX D dA s0 (rA_ ro) To No Zo Io L Ro) args s kc ks (fun q => s0 ≤ q)) (F0 m 5 ls [])) (hm5 : ∀ {T : xT} {N : xT} {Z : Nat} {S : Nat} {I : xI} {R : xR} {x0 : Nat} {x1 : Nat}, kk5 T N Z S I R x0 x1 = some (ro, To, No, Zo, So, Io, Ro) → Z ≤ Zo ∧ S ≤ So) (hf : fX6_sum_rX20_b23 nf rc kk5 (sv dA) T N Z S I L R x0 x1 = some (ro, To, No, Zo, So, Io, Ro)) (V : Iv D dA s0 s T N Z I L R H locs) (hl : lv_has ls 3 [(0, .ref x0), (1, .ref x1)]) (hB : cells + (Zo - Z) ≤ kc ∧ slots + (So - S) ≤ ks) : W p l e { frames := fd + 10, cells := kc, slots := ks, locals := ld + 214 } s m args below meth c H locs cells slots (vx_MQ below (yQ D dA s0 (rA_ ro) To No Zo Io L Ro) (yX D dA s0 (rA_ ro) To No Zo Io L Ro) args s kc ks (fun q => s0 ≤ q)) (F0 m 23 ls []) := by
  have hx := X.1.1
  have hb := X.1.2.1
  unfold fX6_sum_rX20_b23 at hf
  refine lv_aload_n (pc := 23) hx hb dX6_sum_23 rfl (lv_at hl 0 rfl) ?_
  replace hf := tg_s hf; obtain ⟨ht1, hf⟩ := hf
  replace hf := bs hf; obtain ⟨a2, ha2, hf⟩ := hf
  refine x_get (pc := 24) X V okX20 ht1 0 (by decide) q741 (v := va_rf (R x0 0)) rfl dX6_sum_24 ?_
  refine x_topr ha2 ?_
  refine lv_aload_n (pc := 27) hx hb dX6_sum_27 rfl (lv_at hl 0 rfl) ?_
  refine x_get (pc := 28) X V okX20 ht1 3 (by decide) q744 (v := .int (I x0 3)) rfl dX6_sum_28 ?_
  replace hf := rA_s hf; obtain ⟨j3, hjj3, htj3, hij3, hf⟩ := hf
  refine x_bald (pc := 31) X V htj3 hij3 hjj3 dX6_sum_31 ?_
  refine lv_i2c (pc := 32) hx hb dX6_sum_32 rfl ?_
  replace hf := nm_s hf; obtain ⟨u4, hu4, hf⟩ := hf
  refine x_topi hu4 ?_
  refine lv_istore_n (pc := 33) (lv' := [(2, .int u4), (0, .ref x0), (1, .ref x1)]) hx hb dX6_sum_33 rfl hl (by decide) rfl (fun ls hl => ?_)
  refine lv_aload_n (pc := 34) hx hb dX6_sum_34 rfl (lv_at hl 1 rfl) ?_
  replace hf := bs hf; obtain ⟨I5, hk_6, hf⟩ := hf
  refine x_callU (pc := 35) (As := []) (rest := []) X V (mX6_next_rX20 l D dA s0 hk_6) okX20 ht1 q776 q778 q780 q777 q133 q781 rfl hsX6_next_rX20 ⟨by dsimp only; omega, by dsimp only; omega⟩ rfl hl.1 rfl (Nat.le_of_ble_eq_true rfl) dX6_sum_35 ⟨by show cells ≤ kc; omega, by show slots ≤ ks; omega⟩ (fun H locs V => W.eq (g2 := F0 m 38 ls []) rfl ?_)
  replace hf := nm_s hf; obtain ⟨T7, hT7, hf⟩ := hf
  replace hf := nm_s hf; obtain ⟨Z8, hZ8, hf⟩ := hf
  replace hf := nm_s hf; obtain ⟨S9, hS9, hf⟩ := hf
  have hm := zX6_sum_rX20_b41 hrz hm5 hf
  refine x_new (pc := 38) X V okX13 hT7 hZ8 q1013 q1014 q143 (by show _ ≤ kc; omega) (by show _ ≤ ks; omega) dX6_sum_38 (fun H V => ?_)
  exact wX6_sum_rX20_b41 X hr htE hrc hrz hk5 hm5 hf V (lv_sub hl [1, 2, 0] rfl) ⟨by omega, by omega⟩
set_option maxHeartbeats 400000 in
set_option maxRecDepth 100000 in
theorem zX6_sum_rX20_b5 {nf : Nat} {rc : (Nat → Option Nat) → xT → xT → Nat → Nat → xI → xL → xR → Nat → Option ((Nat ⊕ Nat) × xT × xT × Nat × Nat × xI × xR)} {dA : Nat → ClassId} {L : xL}  {ro : (Nat ⊕ Nat)} {To : xT} {No : xT} {Zo : Nat} {So : Nat} {Io : xI} {Ro : xR} (hrz : Mon_X6_sum_rX20 rc)  (k : Nat) : ∀ {T : xT} {N : xT} {Z : Nat} {S : Nat} {I : xI} {R : xR} {x0 : Nat} {x1 : Nat}, fX6_sum_rX20_b5 nf rc (sv dA) L k T N Z S I R x0 x1 = some (ro, To, No, Zo, So, Io, Ro) → Z ≤ Zo ∧ S ≤ So := by
  induction k with
  | zero =>
    intro T N Z S I R x0 x1 hf
    exact absurd (show none = some _ from hf) (fun q => nomatch q)
  | succ k ih =>
    intro T N Z S I R x0 x1 hf
    rw [fX6_sum_rX20_b5] at hf
    replace hf := bs hf; obtain ⟨a1, ha1, hf⟩ := hf
    replace hf := tg_s hf; obtain ⟨ht4, hf⟩ := hf
    replace hf := bs hf; obtain ⟨r2, hk_3, hf⟩ := hf
    rcases (Decidable.em (r2 = (ii 0))).symm with c5 | c5
    · replace hf := if_f hf c5
      have hm := zX6_sum_rX20_b23 hrz ih hf
      exact ⟨by omega, by omega⟩
    · replace hf := if_t hf c5
      replace hf := bs hf; obtain ⟨a6, ha6, hf⟩ := hf
      replace hf := bs hf; obtain ⟨r7, hk_8, hf⟩ := hf
      rcases (Decidable.em (r7 = (ii 0))) with c9 | c9
      · replace hf := if_t hf c9
        cases hf
        exact ⟨Nat.le_refl _, Nat.le_refl _⟩
      · replace hf := if_f hf c9
        have hm := zX6_sum_rX20_b23 hrz ih hf
        exact ⟨by omega, by omega⟩
set_option maxHeartbeats 400000 in
set_option maxRecDepth 100000 in
theorem wX6_sum_rX20_b5 {nf : Nat} {fd ld : Nat} {rc : (Nat → Option Nat) → xT → xT → Nat → Nat → xI → xL → xR → Nat → Option ((Nat ⊕ Nat) × xT × xT × Nat × Nat × xI × xR)} {kc ks : Nat} {p : Program} {l : Launch} {e : Env} {s : State} {m : MethodId} {args : Array Value} {below : List Frame} {meth : Method} {c : Code} {D : va_G} {dA : Nat → ClassId} {s0 : Nat} {L : xL}  {ro : (Nat ⊕ Nat)} {To : xT} {No : xT} {Zo : Nat} {So : Nat} {Io : xI} {Ro : xR} (X : Cx D dA s0 p m c cX6_sum 3 s args RX6 meth) (hr : meth.sig.returnType = (some (.object "LostLanes$Sum"))) (htE : c.exceptionTable.toList = []) (hrc : Con_X6_sum_rX20 l D dA s0 fd ld rc) (hrz : Mon_X6_sum_rX20 rc)    (k : Nat) : ∀ {T : xT} {N : xT} {Z : Nat} {S : Nat} {I : xI} {R : xR} {x0 : Nat} {x1 : Nat} {H : Heap} {locs : List Loc} {ls : Array Slot} {cells slots : Nat} , fX6_sum_rX20_b5 nf rc (sv dA) L k T N Z S I R x0 x1 = some (ro, To, No, Zo, So, Io, Ro) → Iv D dA s0 s T N Z I L R H locs → lv_has ls 3 [(0, .ref x0), (1, .ref x1)] → cells + (Zo - Z) ≤ kc ∧ slots + (So - S) ≤ ks → W p l e { frames := fd + 10, cells := kc, slots := ks, locals := ld + 214 } s m args below meth c H locs cells slots (vx_MQ below (yQ D dA s0 (rA_ ro) To No Zo Io L Ro) (yX D dA s0 (rA_ ro) To No Zo Io L Ro) args s kc ks (fun q => s0 ≤ q)) (F0 m 5 ls []) := by
  have hx := X.1.1
  have hb := X.1.2.1
  induction k with
  | zero =>
    intro T N Z S I R x0 x1 H locs ls cells slots hf V hl hB
    exact absurd (show none = some _ from hf) (fun q => nomatch q)
  | succ k ih =>
    intro T N Z S I R x0 x1 H locs ls cells slots hf V hl hB
    have ihm : ∀ {T : xT} {N : xT} {Z : Nat} {S : Nat} {I : xI} {R : xR} {x0 : Nat} {x1 : Nat}, fX6_sum_rX20_b5 nf rc (sv dA) L k T N Z S I R x0 x1 = some (ro, To, No, Zo, So, Io, Ro) → Z ≤ Zo ∧ S ≤ So := zX6_sum_rX20_b5 hrz k
    rw [fX6_sum_rX20_b5] at hf
    refine lv_aload_n (pc := 5) hx hb dX6_sum_5 rfl (lv_at hl 0 rfl) ?_
    replace hf := bs hf; obtain ⟨a1, ha1, hf⟩ := hf
    refine x_ldcS (pc := 6) X 24 rfl ha1 dX6_sum_6 ?_
    replace hf := tg_s hf; obtain ⟨ht4, hf⟩ := hf
    replace hf := bs hf; obtain ⟨r2, hk_3, hf⟩ := hf
    refine x_callU (pc := 8) (As := [.ref a1]) (rest := []) X V (mX6_is_rX20 l D dA s0 hk_3) okX20 ht4 q916 q2222 q2224 q799 q133 q800 rfl hsX6_is_rX20 ⟨by dsimp only; omega, by dsimp only; omega⟩ rfl hl.1 rfl (Nat.le_of_ble_eq_true rfl) dX6_sum_8 ⟨by show cells ≤ kc; omega, by show slots ≤ ks; omega⟩ (fun H locs V => W.eq (g2 := F0 m 11 ls [.int r2]) rfl ?_)
    refine lv_if_ne (pc := 11) (tgt := 23) hx hb dX6_sum_11 (by decide) (fun c5 => ?_) (fun c5 => ?_)
    · replace hf := if_f hf c5
      exact wX6_sum_rX20_b23 X hr htE hrc hrz ih ihm hf V (lv_sub hl [0, 1] rfl) ⟨by omega, by omega⟩
    · replace hf := if_t hf c5
      refine lv_aload_n (pc := 14) hx hb dX6_sum_14 rfl (lv_at hl 0 rfl) ?_
      replace hf := bs hf; obtain ⟨a6, ha6, hf⟩ := hf
      refine x_ldcS (pc := 15) X 25 rfl ha6 dX6_sum_15 ?_
      replace hf := bs hf; obtain ⟨r7, hk_8, hf⟩ := hf
      refine x_callU (pc := 17) (As := [.ref a6]) (rest := []) X V (mX6_is_rX20 l D dA s0 hk_8) okX20 ht4 q916 q2222 q2224 q799 q133 q800 rfl hsX6_is_rX20 ⟨by dsimp only; omega, by dsimp only; omega⟩ rfl hl.1 rfl (Nat.le_of_ble_eq_true rfl) dX6_sum_17 ⟨by show cells ≤ kc; omega, by show slots ≤ ks; omega⟩ (fun H locs V => W.eq (g2 := F0 m 20 ls [.int r7]) rfl ?_)
      refine lv_if_eq (pc := 20) (tgt := 55) hx hb dX6_sum_20 (by decide) (fun c9 => ?_) (fun c9 => ?_)
      · replace hf := if_t hf c9
        refine lv_aload_n (pc := 55) hx hb dX6_sum_55 rfl (lv_at hl 1 rfl) ?_
        cases hf
        exact y_aret (pc := 56) X V hr (by omega) (by omega) (Or.inl ⟨_, rfl⟩) dX6_sum_56
      · replace hf := if_f hf c9
        exact wX6_sum_rX20_b23 X hr htE hrc hrz ih ihm hf V (lv_sub hl [0, 1] rfl) ⟨by omega, by omega⟩
set_option maxHeartbeats 400000 in
set_option maxRecDepth 100000 in
theorem zX6_sum_rX20_b4 {nf : Nat} {rc : (Nat → Option Nat) → xT → xT → Nat → Nat → xI → xL → xR → Nat → Option ((Nat ⊕ Nat) × xT × xT × Nat × Nat × xI × xR)} {dA : Nat → ClassId} {T : xT} {N : xT} {Z : Nat} {S : Nat} {I : xI} {L : xL} {R : xR}  {x0 : Nat} {z0 : Nat} {ro : (Nat ⊕ Nat)} {To : xT} {No : xT} {Zo : Nat} {So : Nat} {Io : xI} {Ro : xR} (hrz : Mon_X6_sum_rX20 rc)  (hf : fX6_sum_rX20_b4 nf rc (sv dA) T N Z S I L R x0 z0 = some (ro, To, No, Zo, So, Io, Ro)) : Z ≤ Zo ∧ S ≤ So := by
  unfold fX6_sum_rX20_b4 at hf
  have hm := zX6_sum_rX20_b5 hrz nf hf
  exact ⟨by omega, by omega⟩
set_option maxHeartbeats 400000 in
set_option maxRecDepth 100000 in
theorem wX6_sum_rX20_b4 {nf : Nat} {fd ld : Nat} {rc : (Nat → Option Nat) → xT → xT → Nat → Nat → xI → xL → xR → Nat → Option ((Nat ⊕ Nat) × xT × xT × Nat × Nat × xI × xR)} {kc ks : Nat} {cells slots : Nat} {p : Program} {l : Launch} {e : Env} {s : State} {m : MethodId} {args : Array Value} {below : List Frame} {meth : Method} {c : Code} {D : va_G} {dA : Nat → ClassId} {s0 : Nat} {T : xT} {N : xT} {Z : Nat} {S : Nat} {I : xI} {L : xL} {R : xR} {H : Heap} {locs : List Loc} {ls : Array Slot}  {x0 : Nat} {z0 : Nat} {ro : (Nat ⊕ Nat)} {To : xT} {No : xT} {Zo : Nat} {So : Nat} {Io : xI} {Ro : xR} (X : Cx D dA s0 p m c cX6_sum 3 s args RX6 meth) (hr : meth.sig.returnType = (some (.object "LostLanes$Sum"))) (htE : c.exceptionTable.toList = []) (hrc : Con_X6_sum_rX20 l D dA s0 fd ld rc) (hrz : Mon_X6_sum_rX20 rc)    (hf : fX6_sum_rX20_b4 nf rc (sv dA) T N Z S I L R x0 z0 = some (ro, To, No, Zo, So, Io, Ro)) (V : Iv D dA s0 s T N Z I L R H locs) (hl : lv_has ls 3 [(0, .ref x0)]) (hB : cells + (Zo - Z) ≤ kc ∧ slots + (So - S) ≤ ks) : W p l e { frames := fd + 10, cells := kc, slots := ks, locals := ld + 214 } s m args below meth c H locs cells slots (vx_MQ below (yQ D dA s0 (rA_ ro) To No Zo Io L Ro) (yX D dA s0 (rA_ ro) To No Zo Io L Ro) args s kc ks (fun q => s0 ≤ q)) (F0 m 4 ls [.ref z0]) := by
  have hx := X.1.1
  have hb := X.1.2.1
  unfold fX6_sum_rX20_b4 at hf
  refine lv_astore_n (pc := 4) (lv' := [(1, .ref z0), (0, .ref x0)]) hx hb dX6_sum_4 rfl hl (by decide) rfl (fun ls hl => ?_)
  exact wX6_sum_rX20_b5 X hr htE hrc hrz nf hf V (lv_sub hl [1, 0] rfl) ⟨by omega, by omega⟩
set_option maxHeartbeats 400000 in
set_option maxRecDepth 100000 in
theorem zX6_sum_rX20_E {nf : Nat} {rc : (Nat → Option Nat) → xT → xT → Nat → Nat → xI → xL → xR → Nat → Option ((Nat ⊕ Nat) × xT × xT × Nat × Nat × xI × xR)} {dA : Nat → ClassId} {T : xT} {N : xT} {Z : Nat} {S : Nat} {I : xI} {L : xL} {R : xR} {x0 : Nat} {ro : (Nat ⊕ Nat)} {To : xT} {No : xT} {Zo : Nat} {So : Nat} {Io : xI} {Ro : xR} (hrz : Mon_X6_sum_rX20 rc) (hf : fX6_sum_rX20_E nf rc (sv dA) T N Z S I L R x0 = some (ro, To, No, Zo, So, Io, Ro)) : Z ≤ Zo ∧ S ≤ So := by
  unfold fX6_sum_rX20_E at hf
  replace hf := tg_s hf; obtain ⟨ht9, hf⟩ := hf
  replace hf := b7s hf; obtain ⟨r1, T2, N3, Z4, S5, I6, R7, hk_8, hf⟩ := hf
  have hm_hk_8 := zX6_term_rX20 hrz hk_8
  replace hf := xc_s hf; rcases hf with ⟨a10, hr_12, hf⟩ | ⟨v11, hr_12, hf⟩
  · skip
    replace hf := tg_s hf; obtain ⟨ht13, hf⟩ := hf
    cases hf
    exact ⟨by omega, by omega⟩
  · skip
    have hm := zX6_sum_rX20_b4 hrz hf
    exact ⟨by omega, by omega⟩
set_option maxHeartbeats 400000 in
set_option maxRecDepth 100000 in
theorem wX6_sum_rX20_e {nf : Nat} {fd ld : Nat} {rc : (Nat → Option Nat) → xT → xT → Nat → Nat → xI → xL → xR → Nat → Option ((Nat ⊕ Nat) × xT × xT × Nat × Nat × xI × xR)} {kc ks : Nat} {cells slots : Nat} {p : Program} {l : Launch} {e : Env} {s : State} {m : MethodId} {args : Array Value} {below : List Frame} {meth : Method} {c : Code} {D : va_G} {dA : Nat → ClassId} {s0 : Nat} {T : xT} {N : xT} {Z : Nat} {S : Nat} {I : xI} {L : xL} {R : xR} {H : Heap} {locs : List Loc} {ls : Array Slot} {x0 : Nat} {ro : (Nat ⊕ Nat)} {To : xT} {No : xT} {Zo : Nat} {So : Nat} {Io : xI} {Ro : xR} (X : Cx D dA s0 p m c cX6_sum 3 s args RX6 meth) (hr : meth.sig.returnType = (some (.object "LostLanes$Sum"))) (htE : c.exceptionTable.toList = []) (hrc : Con_X6_sum_rX20 l D dA s0 fd ld rc) (hrz : Mon_X6_sum_rX20 rc)  (hf : fX6_sum_rX20_E nf rc (sv dA) T N Z S I L R x0 = some (ro, To, No, Zo, So, Io, Ro)) (V : Iv D dA s0 s T N Z I L R H locs) (hl : lv_has ls 3 [(0, .ref x0)]) (hB : cells + (Zo - Z) ≤ kc ∧ slots + (So - S) ≤ ks) : W p l e { frames := fd + 10, cells := kc, slots := ks, locals := ld + 214 } s m args below meth c H locs cells slots (vx_MQ below (yQ D dA s0 (rA_ ro) To No Zo Io L Ro) (yX D dA s0 (rA_ ro) To No Zo Io L Ro) args s kc ks (fun q => s0 ≤ q)) (F0 m 0 ls []) := by
  have hx := X.1.1
  have hb := X.1.2.1
  unfold fX6_sum_rX20_E at hf
  refine lv_aload_n (pc := 0) hx hb dX6_sum_0 rfl (lv_at hl 0 rfl) ?_
  replace hf := tg_s hf; obtain ⟨ht9, hf⟩ := hf
  replace hf := b7s hf; obtain ⟨r1, T2, N3, Z4, S5, I6, R7, hk_8, hf⟩ := hf
  have hm_hk_8 := zX6_term_rX20 hrz hk_8
  replace hf := xc_s hf; rcases hf with ⟨a10, hr_12, hf⟩ | ⟨v11, hr_12, hf⟩
  · rw [hr_12] at hk_8
    replace hf := tg_s hf; obtain ⟨ht13, hf⟩ := hf
    have hzE : Z4 = Zo := by cases hf; rfl
    have hsE : S5 = So := by cases hf; rfl
    refine y_afterX (y_runU (pc := 1) (As := []) (rest := []) X V (mX6_term_rX20 l D dA s0 hrc hrz (kc := Z4 - Z) (ks := S5 - S) (Nat.le_refl _) (Nat.le_refl _) hk_8) okX20 ht9 q903 q905 q907 q904 q133 q908 rfl hsX6_term_rX20 ⟨by dsimp only; omega, by dsimp only; omega⟩ rfl hl.1 rfl (Nat.le_of_ble_eq_true rfl) dX6_sum_1 ⟨by show _ ≤ kc; omega, by show _ ≤ ks; omega⟩) V (fun H locs V => ?_)
    cases hf
    exact y_out X V htE okX8 ht13 (by omega) (by omega)
  · rw [hr_12] at hk_8
    have hm := zX6_sum_rX20_b4 hrz hf
    refine y_afterR (y_runU (pc := 1) (As := []) (rest := []) X V (mX6_term_rX20 l D dA s0 hrc hrz (kc := Z4 - Z) (ks := S5 - S) (Nat.le_refl _) (Nat.le_refl _) hk_8) okX20 ht9 q903 q905 q907 q904 q133 q908 rfl hsX6_term_rX20 ⟨by dsimp only; omega, by dsimp only; omega⟩ rfl hl.1 rfl (Nat.le_of_ble_eq_true rfl) dX6_sum_1 ⟨by show _ ≤ kc; omega, by show _ ≤ ks; omega⟩) V (fun H locs V => W.eq (g2 := F0 m 4 ls [.ref v11]) rfl ?_)
    exact wX6_sum_rX20_b4 X hr htE hrc hrz hf V (lv_sub hl [0] rfl) ⟨by omega, by omega⟩
theorem mX6_sum_rX20_E {nf : Nat} {fd ld : Nat} {rc : (Nat → Option Nat) → xT → xT → Nat → Nat → xI → xL → xR → Nat → Option ((Nat ⊕ Nat) × xT × xT × Nat × Nat × xI × xR)} (l : Launch) (D : va_G) (dA : Nat → ClassId) (s0 : Nat) {kc ks : Nat} {T : xT} {N : xT} {Z : Nat} {S : Nat} {I : xI} {L : xL} {R : xR} {x0 : Nat} {ro : (Nat ⊕ Nat)} {To : xT} {No : xT} {Zo : Nat} {So : Nat} {Io : xI} {Ro : xR} (hrc : Con_X6_sum_rX20 l D dA s0 fd ld rc) (hrz : Mon_X6_sum_rX20 rc) (hZ : Zo - Z ≤ kc) (hS : So - S ≤ ks) (hf : fX6_sum_rX20_E nf rc (sv dA) T N Z S I L R x0 = some (ro, To, No, Zo, So, Io, Ro)) : YMet l D dA s0 yX6_sum (ws_ yX6_sum cX6_sum 3 ((some (.object "LostLanes$Sum")))) (fd + 10) (ld + 214) [.ref x0] T N Z I L R (rA_ ro) To No Zo Io L Ro kc ks :=
  y_start (own := RX6) rfl (by decide) (Nat.le_of_ble_eq_true rfl) (lv := [(0, .ref x0)]) rfl (fun p e s m below meth c ls X hr htE V hl => wX6_sum_rX20_e X hr htE hrc hrz hf V hl ⟨by omega, by omega⟩)
theorem zX6_sum_rX20 {nf : Nat} (d : Nat) : Mon_X6_sum_rX20 (fX6_sum_rX20 nf d) := by
  induction d with
  | zero =>
    intro dA T N Z S I L R x0 ro To No Zo So Io Ro hf
    exact absurd (show none = some _ from hf) (fun q => nomatch q)
  | succ d ih =>
    intro dA T N Z S I L R x0 ro To No Zo So Io Ro hf
    exact zX6_sum_rX20_E ih hf
theorem mX6_sum_rX20 {nf : Nat} (l : Launch) (D : va_G) (dA : Nat → ClassId) (s0 : Nat) (d : Nat) : Con_X6_sum_rX20 l D dA s0 (10 * d) (214 * d) (fX6_sum_rX20 nf d) := by
  induction d with
  | zero =>
    intro kc ks T N Z S I L R x0 ro To No Zo So Io Ro hZ hS hf
    exact absurd (show none = some _ from hf) (fun q => nomatch q)
  | succ d ih =>
    intro kc ks T N Z S I L R x0 ro To No Zo So Io Ro hZ hS hf
    exact mX6_sum_rX20_E l D dA s0 ih (zX6_sum_rX20 d) hZ hS hf
