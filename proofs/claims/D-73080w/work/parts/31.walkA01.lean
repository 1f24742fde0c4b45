set_option maxHeartbeats 400000 in
set_option maxRecDepth 100000 in
theorem wX14_init_rX16_e {p : Program} {l : Launch} {e : Env} {s : State} {m : MethodId} {args : Array Value} {below : List Frame} {meth : Method} {c : Code} {D : va_G} {dA : Nat → ClassId} {s0 : Nat} {T : xT} {N : xT} {Z : Nat} {I : xI} {L : xL} {R : xR} {H : Heap} {locs : List Loc} {ls : Array Slot} {x0 : Nat}  (X : Cx D dA s0 p m c cX14_init 1 s args RX14 meth) (hr : meth.sig.returnType = none) (hini : meth.name = "<init>") (hf : fX14_init_rX16 x0 = some ()) (V : Iv D dA s0 s T N Z I L R H locs) (hl : lv_has ls 1 [(0, .ref x0)]) : W p l e { frames := 1, cells := 0, slots := 0, locals := 20 } s m args below meth c H locs 0 0 (MQ below (xQ D dA s0 none T N Z I L R) args s 0 0 (fun q => s0 ≤ q)) (F0 m 0 ls []) := by
  have hx := X.1.1
  have hb := X.1.2.1
  unfold fX14_init_rX16 at hf
  refine lv_aload_n (pc := 0) hx hb dX14_init_0 rfl (lv_at hl 0 rfl) ?_
  refine x_objInit (pc := 1) X q1075 q161 q162 hl.1 (Nat.le_of_ble_eq_true rfl) (Nat.le_of_ble_eq_true rfl) dX14_init_1 ?_
  cases hf
  exact x_vret (pc := 4) X V hr dX14_init_4
theorem mX14_init_rX16 (l : Launch) (D : va_G) (dA : Nat → ClassId) (s0 : Nat) {T : xT} {N : xT} {Z : Nat} {I : xI} {L : xL} {R : xR} {x0 : Nat}  (hf : fX14_init_rX16 x0 = some ()) : XMet l D dA s0 yX14_init (ws_ yX14_init cX14_init 1 (none)) (1) (20) [.ref x0] T N Z I L R none T N Z I L R 0 0 :=
  x_start (own := RX14) rfl (by decide) (Nat.le_of_ble_eq_true rfl) (lv := [(0, .ref x0)]) rfl (fun p e s m below meth c ls X hr hini V hl => wX14_init_rX16_e X hr hini hf V hl)
set_option maxHeartbeats 400000 in
set_option maxRecDepth 100000 in
theorem wX16_init_e {p : Program} {l : Launch} {e : Env} {s : State} {m : MethodId} {args : Array Value} {below : List Frame} {meth : Method} {c : Code} {D : va_G} {dA : Nat → ClassId} {s0 : Nat} {T : xT} {N : xT} {Z : Nat} {I : xI} {L : xL} {R : xR} {H : Heap} {locs : List Loc} {ls : Array Slot} {x0 : Nat} {x1 : Nat} {Ro : xR} (X : Cx D dA s0 p m c cX16_init 2 s args RX16 meth) (hr : meth.sig.returnType = none) (hini : meth.name = "<init>") (hf : fX16_init T R x0 x1 = some Ro) (V : Iv D dA s0 s T N Z I L R H locs) (hl : lv_has ls 2 [(0, .ref x0), (1, .ref x1)]) : W p l e { frames := 2, cells := 0, slots := 0, locals := 40 } s m args below meth c H locs 0 0 (MQ below (xQ D dA s0 none T N Z I L Ro) args s 0 0 (fun q => s0 ≤ q)) (F0 m 0 ls []) := by
  have hx := X.1.1
  have hb := X.1.2.1
  unfold fX16_init at hf
  refine lv_aload_n (pc := 0) hx hb dX16_init_0 rfl (lv_at hl 0 rfl) ?_
  replace hf := bs hf; obtain ⟨_, hk_1, hf⟩ := hf
  refine x_callIN0 (pc := 1) (As := []) (rest := []) X V (mX14_init_rX16 l D dA s0 hk_1) q1091 q1073 q144 q1074 rfl hsX14_init_rX16 ⟨Nat.le_of_ble_eq_true rfl, Nat.le_of_ble_eq_true rfl⟩ rfl hl.1 rfl (Nat.le_of_ble_eq_true rfl) dX16_init_1 ⟨Nat.zero_le _, Nat.zero_le _⟩ (fun H locs V => W.eq (g2 := F0 m 4 ls []) rfl ?_)
  refine lv_aload_n (pc := 4) hx hb dX16_init_4 rfl (lv_at hl 0 rfl) ?_
  refine lv_aload_n (pc := 5) hx hb dX16_init_5 rfl (lv_at hl 1 rfl) ?_
  replace hf := tg_s hf; obtain ⟨ht2, hf⟩ := hf
  replace hf := nm_s hf; obtain ⟨R3, hR3, hf⟩ := hf
  refine x_putr (pc := 6) X V okX16 (by decide) ht2 0 (by decide) q1092 (Or.inr ⟨rfl, hini, rfl⟩) hR3 (fun _ _ _ => rfl) (v := .ref x1) rfl rfl rfl dX16_init_6 (fun H locs V => ?_)
  cases hf
  exact x_vret (pc := 9) X V hr dX16_init_9
theorem mX16_init (l : Launch) (D : va_G) (dA : Nat → ClassId) (s0 : Nat) {T : xT} {N : xT} {Z : Nat} {I : xI} {L : xL} {R : xR} {x0 : Nat} {x1 : Nat} {Ro : xR} (hf : fX16_init T R x0 x1 = some Ro) : XMet l D dA s0 yX16_init (ws_ yX16_init cX16_init 2 (none)) (2) (40) [.ref x0, .ref x1] T N Z I L R none T N Z I L Ro 0 0 :=
  x_start (own := RX16) rfl (by decide) (Nat.le_of_ble_eq_true rfl) (lv := [(0, .ref x0), (1, .ref x1)]) rfl (fun p e s m below meth c ls X hr hini V hl => wX16_init_e X hr hini hf V hl)
set_option maxHeartbeats 400000 in
set_option maxRecDepth 100000 in
theorem wX14_init_rX17_e {p : Program} {l : Launch} {e : Env} {s : State} {m : MethodId} {args : Array Value} {below : List Frame} {meth : Method} {c : Code} {D : va_G} {dA : Nat → ClassId} {s0 : Nat} {T : xT} {N : xT} {Z : Nat} {I : xI} {L : xL} {R : xR} {H : Heap} {locs : List Loc} {ls : Array Slot} {x0 : Nat}  (X : Cx D dA s0 p m c cX14_init 1 s args RX14 meth) (hr : meth.sig.returnType = none) (hini : meth.name = "<init>") (hf : fX14_init_rX17 x0 = some ()) (V : Iv D dA s0 s T N Z I L R H locs) (hl : lv_has ls 1 [(0, .ref x0)]) : W p l e { frames := 1, cells := 0, slots := 0, locals := 20 } s m args below meth c H locs 0 0 (MQ below (xQ D dA s0 none T N Z I L R) args s 0 0 (fun q => s0 ≤ q)) (F0 m 0 ls []) := by
  have hx := X.1.1
  have hb := X.1.2.1
  unfold fX14_init_rX17 at hf
  refine lv_aload_n (pc := 0) hx hb dX14_init_0 rfl (lv_at hl 0 rfl) ?_
  refine x_objInit (pc := 1) X q1075 q161 q162 hl.1 (Nat.le_of_ble_eq_true rfl) (Nat.le_of_ble_eq_true rfl) dX14_init_1 ?_
  cases hf
  exact x_vret (pc := 4) X V hr dX14_init_4
theorem mX14_init_rX17 (l : Launch) (D : va_G) (dA : Nat → ClassId) (s0 : Nat) {T : xT} {N : xT} {Z : Nat} {I : xI} {L : xL} {R : xR} {x0 : Nat}  (hf : fX14_init_rX17 x0 = some ()) : XMet l D dA s0 yX14_init (ws_ yX14_init cX14_init 1 (none)) (1) (20) [.ref x0] T N Z I L R none T N Z I L R 0 0 :=
  x_start (own := RX14) rfl (by decide) (Nat.le_of_ble_eq_true rfl) (lv := [(0, .ref x0)]) rfl (fun p e s m below meth c ls X hr hini V hl => wX14_init_rX17_e X hr hini hf V hl)
set_option maxHeartbeats 400000 in
set_option maxRecDepth 100000 in
theorem wJ0_init_rJ2_e {p : Program} {l : Launch} {e : Env} {s : State} {m : MethodId} {args : Array Value} {below : List Frame} {meth : Method} {c : Code} {D : va_G} {dA : Nat → ClassId} {s0 : Nat} {T : xT} {N : xT} {Z : Nat} {I : xI} {L : xL} {R : xR} {H : Heap} {locs : List Loc} {ls : Array Slot} {x0 : Nat}  (X : Cx D dA s0 p m c cJ0_init 1 s args RJ0 meth) (hr : meth.sig.returnType = none) (hini : meth.name = "<init>") (hf : fJ0_init_rJ2 x0 = some ()) (V : Iv D dA s0 s T N Z I L R H locs) (hl : lv_has ls 1 [(0, .ref x0)]) : W p l e { frames := 1, cells := 0, slots := 0, locals := 20 } s m args below meth c H locs 0 0 (MQ below (xQ D dA s0 none T N Z I L R) args s 0 0 (fun q => s0 ≤ q)) (F0 m 0 ls []) := by
  have hx := X.1.1
  have hb := X.1.2.1
  unfold fJ0_init_rJ2 at hf
  refine lv_aload_n (pc := 0) hx hb dJ0_init_0 rfl (lv_at hl 0 rfl) ?_
  refine x_objInit (pc := 1) X q204 q161 q162 hl.1 (Nat.le_of_ble_eq_true rfl) (Nat.le_of_ble_eq_true rfl) dJ0_init_1 ?_
  cases hf
  exact x_vret (pc := 4) X V hr dJ0_init_4
theorem mJ0_init_rJ2 (l : Launch) (D : va_G) (dA : Nat → ClassId) (s0 : Nat) {T : xT} {N : xT} {Z : Nat} {I : xI} {L : xL} {R : xR} {x0 : Nat}  (hf : fJ0_init_rJ2 x0 = some ()) : XMet l D dA s0 yJ0_init (ws_ yJ0_init cJ0_init 1 (none)) (1) (20) [.ref x0] T N Z I L R none T N Z I L R 0 0 :=
  x_start (own := RJ0) rfl (by decide) (Nat.le_of_ble_eq_true rfl) (lv := [(0, .ref x0)]) rfl (fun p e s m below meth c ls X hr hini V hl => wJ0_init_rJ2_e X hr hini hf V hl)
set_option maxHeartbeats 400000 in
set_option maxRecDepth 100000 in
theorem wJ1_init_rJ2_e {p : Program} {l : Launch} {e : Env} {s : State} {m : MethodId} {args : Array Value} {below : List Frame} {meth : Method} {c : Code} {D : va_G} {dA : Nat → ClassId} {s0 : Nat} {T : xT} {N : xT} {Z : Nat} {I : xI} {L : xL} {R : xR} {H : Heap} {locs : List Loc} {ls : Array Slot} {x0 : Nat} {Io : xI} (X : Cx D dA s0 p m c cJ1_init 1 s args RJ1 meth) (hr : meth.sig.returnType = none) (hini : meth.name = "<init>") (hf : fJ1_init_rJ2 T I x0 = some Io) (V : Iv D dA s0 s T N Z I L R H locs) (hl : lv_has ls 1 [(0, .ref x0)]) : W p l e { frames := 2, cells := 0, slots := 0, locals := 40 } s m args below meth c H locs 0 0 (MQ below (xQ D dA s0 none T N Z Io L R) args s 0 0 (fun q => s0 ≤ q)) (F0 m 0 ls []) := by
  have hx := X.1.1
  have hb := X.1.2.1
  unfold fJ1_init_rJ2 at hf
  refine lv_aload_n (pc := 0) hx hb dJ1_init_0 rfl (lv_at hl 0 rfl) ?_
  replace hf := bs hf; obtain ⟨_, hk_1, hf⟩ := hf
  refine x_callI0 (pc := 1) (As := []) (rest := []) X V (mJ0_init_rJ2 l D dA s0 hk_1) q201 q202 q122 q203 rfl hsJ0_init_rJ2 ⟨Nat.le_of_ble_eq_true rfl, Nat.le_of_ble_eq_true rfl⟩ rfl hl.1 rfl (Nat.le_of_ble_eq_true rfl) dJ1_init_1 ⟨Nat.zero_le _, Nat.zero_le _⟩ (fun H locs V => W.eq (g2 := F0 m 4 ls []) rfl ?_)
  refine lv_aload_n (pc := 4) hx hb dJ1_init_4 rfl (lv_at hl 0 rfl) ?_
  refine lv_iconst (pc := 5) (v := (ii 0)) hx hb dJ1_init_5 (by decide) ?_
  replace hf := tg_s hf; obtain ⟨ht2, hf⟩ := hf
  replace hf := nm_s hf; obtain ⟨I3, hI3, hf⟩ := hf
  refine x_puti (pc := 6) X V okJ2 (by decide) ht2 0 (by decide) q211 (Or.inl rfl) hI3 (fun _ _ _ => rfl) rfl rfl dJ1_init_6 (fun H locs V => ?_)
  cases hf
  exact x_vret (pc := 9) X V hr dJ1_init_9
theorem mJ1_init_rJ2 (l : Launch) (D : va_G) (dA : Nat → ClassId) (s0 : Nat) {T : xT} {N : xT} {Z : Nat} {I : xI} {L : xL} {R : xR} {x0 : Nat} {Io : xI} (hf : fJ1_init_rJ2 T I x0 = some Io) : XMet l D dA s0 yJ1_init (ws_ yJ1_init cJ1_init 1 (none)) (2) (40) [.ref x0] T N Z I L R none T N Z Io L R 0 0 :=
  x_start (own := RJ1) rfl (by decide) (Nat.le_of_ble_eq_true rfl) (lv := [(0, .ref x0)]) rfl (fun p e s m below meth c ls X hr hini V hl => wJ1_init_rJ2_e X hr hini hf V hl)
set_option maxHeartbeats 400000 in
set_option maxRecDepth 100000 in
theorem zJ2_init_b13 {T : xT} {N : xT} {Z : Nat} {S : Nat} {I : xI} {R : xR}  {z0 : Nat} {z1 : Nat} {To : xT} {No : xT} {Zo : Nat} {So : Nat} {Io : xI} {Ro : xR}  (hf : fJ2_init_b13 T N Z S I R z0 z1 = some (To, No, Zo, So, Io, Ro)) : Z ≤ Zo ∧ S ≤ So := by
  unfold fJ2_init_b13 at hf
  replace hf := tg_s hf; obtain ⟨ht1, hf⟩ := hf
  replace hf := nm_s hf; obtain ⟨R2, hR2, hf⟩ := hf
  cases hf
  exact ⟨Nat.le_refl _, Nat.le_refl _⟩
set_option maxHeartbeats 400000 in
set_option maxRecDepth 100000 in
theorem wJ2_init_b13 {kc ks : Nat} {cells slots : Nat} {p : Program} {l : Launch} {e : Env} {s : State} {m : MethodId} {args : Array Value} {below : List Frame} {meth : Method} {c : Code} {D : va_G} {dA : Nat → ClassId} {s0 : Nat} {T : xT} {N : xT} {Z : Nat} {S : Nat} {I : xI} {L : xL} {R : xR} {H : Heap} {locs : List Loc} {ls : Array Slot}  {z0 : Nat} {z1 : Nat} {To : xT} {No : xT} {Zo : Nat} {So : Nat} {Io : xI} {Ro : xR} (X : Cx D dA s0 p m c cJ2_init 2 s args RJ2 meth) (hr : meth.sig.returnType = none) (hini : meth.name = "<init>")   (hf : fJ2_init_b13 T N Z S I R z0 z1 = some (To, No, Zo, So, Io, Ro)) (V : Iv D dA s0 s T N Z I L R H locs) (hl : lv_has ls 2 []) (hB : cells + (Zo - Z) ≤ kc ∧ slots + (So - S) ≤ ks) : W p l e { frames := 3, cells := kc, slots := ks, locals := 60 } s m args below meth c H locs cells slots (MQ below (xQ D dA s0 none To No Zo Io L Ro) args s kc ks (fun q => s0 ≤ q)) (F0 m 13 ls [.ref z1, .ref z0]) := by
  have hx := X.1.1
  have hb := X.1.2.1
  unfold fJ2_init_b13 at hf
  replace hf := tg_s hf; obtain ⟨ht1, hf⟩ := hf
  replace hf := nm_s hf; obtain ⟨R2, hR2, hf⟩ := hf
  refine x_putr (pc := 13) X V okJ2 (by decide) ht1 1 (by decide) q209 (Or.inl rfl) hR2 (fun _ _ _ => rfl) (v := .ref z1) rfl rfl rfl dJ2_init_13 (fun H locs V => ?_)
  refine lv_goto (pc := 16) (tgt := 60) hx hb dJ2_init_16 (by decide) ?_
  cases hf
  exact x_vretW (pc := 60) X V hr (by omega) (by omega) dJ2_init_60
set_option maxHeartbeats 400000 in
set_option maxRecDepth 100000 in
theorem zJ2_init {T : xT} {N : xT} {Z : Nat} {S : Nat} {I : xI} {R : xR} {x0 : Nat} {x1 : Int32} {To : xT} {No : xT} {Zo : Nat} {So : Nat} {Io : xI} {Ro : xR} (hf : fJ2_init T N Z S I R x0 x1 = some (To, No, Zo, So, Io, Ro)) : Z ≤ Zo ∧ S ≤ So := by
  unfold fJ2_init at hf
  replace hf := bs hf; obtain ⟨I1, hk_2, hf⟩ := hf
  rcases (Decidable.em (x1 ≤ (ii 0))) with c3 | c3
  · replace hf := if_t hf c3
    rcases (Decidable.em (x1 = (ii 0))).symm with c4 | c4
    · replace hf := if_f hf c4
      cases hf
    · replace hf := if_t hf c4
      cases hf
  · replace hf := if_f hf c3
    replace hf := chk_s hf; obtain ⟨hq5, hf⟩ := hf
    replace hf := nm_s hf; obtain ⟨T6, hT6, hf⟩ := hf
    replace hf := nm_s hf; obtain ⟨N7, hN7, hf⟩ := hf
    replace hf := nm_s hf; obtain ⟨Z8, hZ8, hf⟩ := hf
    replace hf := nm_s hf; obtain ⟨S9, hS9, hf⟩ := hf
    have hm := zJ2_init_b13 hf
    exact ⟨by omega, by omega⟩
set_option maxHeartbeats 400000 in
set_option maxRecDepth 100000 in
theorem wJ2_init_e {kc ks : Nat} {cells slots : Nat} {p : Program} {l : Launch} {e : Env} {s : State} {m : MethodId} {args : Array Value} {below : List Frame} {meth : Method} {c : Code} {D : va_G} {dA : Nat → ClassId} {s0 : Nat} {T : xT} {N : xT} {Z : Nat} {S : Nat} {I : xI} {L : xL} {R : xR} {H : Heap} {locs : List Loc} {ls : Array Slot} {x0 : Nat} {x1 : Int32} {To : xT} {No : xT} {Zo : Nat} {So : Nat} {Io : xI} {Ro : xR} (X : Cx D dA s0 p m c cJ2_init 2 s args RJ2 meth) (hr : meth.sig.returnType = none) (hini : meth.name = "<init>") (hf : fJ2_init T N Z S I R x0 x1 = some (To, No, Zo, So, Io, Ro)) (V : Iv D dA s0 s T N Z I L R H locs) (hl : lv_has ls 2 [(0, .ref x0), (1, .int x1)]) (hB : cells + (Zo - Z) ≤ kc ∧ slots + (So - S) ≤ ks) : W p l e { frames := 3, cells := kc, slots := ks, locals := 60 } s m args below meth c H locs cells slots (MQ below (xQ D dA s0 none To No Zo Io L Ro) args s kc ks (fun q => s0 ≤ q)) (F0 m 0 ls []) := by
  have hx := X.1.1
  have hb := X.1.2.1
  unfold fJ2_init at hf
  refine lv_aload_n (pc := 0) hx hb dJ2_init_0 rfl (lv_at hl 0 rfl) ?_
  replace hf := bs hf; obtain ⟨I1, hk_2, hf⟩ := hf
  refine x_callI0 (pc := 1) (As := []) (rest := []) X V (mJ1_init_rJ2 l D dA s0 hk_2) q198 q199 q123 q200 rfl hsJ1_init_rJ2 ⟨Nat.le_of_ble_eq_true rfl, Nat.le_of_ble_eq_true rfl⟩ rfl hl.1 rfl (Nat.le_of_ble_eq_true rfl) dJ2_init_1 ⟨by show cells ≤ kc; omega, by show slots ≤ ks; omega⟩ (fun H locs V => W.eq (g2 := F0 m 4 ls []) rfl ?_)
  refine lv_iload_n (pc := 4) hx hb dJ2_init_4 rfl (lv_at hl 1 rfl) ?_
  refine lv_if_le (pc := 5) (tgt := 19) hx hb dJ2_init_5 (by decide) (fun c3 => ?_) (fun c3 => ?_)
  · replace hf := if_t hf c3
    refine lv_iload_n (pc := 19) hx hb dJ2_init_19 rfl (lv_at hl 1 rfl) ?_
    refine lv_if_ne (pc := 20) (tgt := 33) hx hb dJ2_init_20 (by decide) (fun c4 => ?_) (fun c4 => ?_)
    · replace hf := if_f hf c4
      cases hf
    · replace hf := if_t hf c4
      refine lv_aload_n (pc := 23) hx hb dJ2_init_23 rfl (lv_at hl 0 rfl) ?_
      cases hf
  · replace hf := if_f hf c3
    refine lv_aload_n (pc := 8) hx hb dJ2_init_8 rfl (lv_at hl 0 rfl) ?_
    refine lv_iload_n (pc := 9) hx hb dJ2_init_9 rfl (lv_at hl 1 rfl) ?_
    replace hf := chk_s hf; obtain ⟨hq5, hf⟩ := hf
    replace hf := nm_s hf; obtain ⟨T6, hT6, hf⟩ := hf
    replace hf := nm_s hf; obtain ⟨N7, hN7, hf⟩ := hf
    replace hf := nm_s hf; obtain ⟨Z8, hZ8, hf⟩ := hf
    replace hf := nm_s hf; obtain ⟨S9, hS9, hf⟩ := hf
    have hm := zJ2_init_b13 hf
    refine x_anew (pc := 10) X V (k := 4) rfl (by decide) (by decide) q205 hq5 hT6 hN7 hZ8 (by show _ ≤ kc; omega) (by show _ ≤ ks; omega) dJ2_init_10 (fun H V => ?_)
    exact wJ2_init_b13 X hr hini hf V (lv_sub hl [] rfl) ⟨by omega, by omega⟩
theorem mJ2_init (l : Launch) (D : va_G) (dA : Nat → ClassId) (s0 : Nat) {kc ks : Nat} {T : xT} {N : xT} {Z : Nat} {S : Nat} {I : xI} {L : xL} {R : xR} {x0 : Nat} {x1 : Int32} {To : xT} {No : xT} {Zo : Nat} {So : Nat} {Io : xI} {Ro : xR} (hZ : Zo - Z ≤ kc) (hS : So - S ≤ ks) (hf : fJ2_init T N Z S I R x0 x1 = some (To, No, Zo, So, Io, Ro)) : XMet l D dA s0 yJ2_init (ws_ yJ2_init cJ2_init 2 (none)) (3) (60) [.ref x0, .int x1] T N Z I L R none To No Zo Io L Ro kc ks :=
  x_start (own := RJ2) rfl (by decide) (Nat.le_of_ble_eq_true rfl) (lv := [(0, .ref x0), (1, .int x1)]) rfl (fun p e s m below meth c ls X hr hini V hl => wJ2_init_e X hr hini hf V hl ⟨by omega, by omega⟩)
set_option maxHeartbeats 400000 in
set_option maxRecDepth 100000 in
theorem zX17_init_b13 {T : xT} {N : xT} {Z : Nat} {S : Nat} {I : xI} {R : xR}  {x0 : Nat} {x1 : Int32} {z0 : Nat} {z1 : Nat} {To : xT} {No : xT} {Zo : Nat} {So : Nat} {Io : xI} {Ro : xR}  (hf : fX17_init_b13 T N Z S I R x0 x1 z0 z1 = some (To, No, Zo, So, Io, Ro)) : Z ≤ Zo ∧ S ≤ So := by
  unfold fX17_init_b13 at hf
  replace hf := tg_s hf; obtain ⟨ht1, hf⟩ := hf
  replace hf := nm_s hf; obtain ⟨R2, hR2, hf⟩ := hf
  replace hf := tg_s hf; obtain ⟨ht3, hf⟩ := hf
  replace hf := chk_s hf; obtain ⟨hz4, hf⟩ := hf
  replace hf := nm_s hf; obtain ⟨I5, hI5, hf⟩ := hf
  cases hf
  exact ⟨Nat.le_refl _, Nat.le_refl _⟩
set_option maxHeartbeats 400000 in
set_option maxRecDepth 100000 in
theorem wX17_init_b13 {kc ks : Nat} {cells slots : Nat} {p : Program} {l : Launch} {e : Env} {s : State} {m : MethodId} {args : Array Value} {below : List Frame} {meth : Method} {c : Code} {D : va_G} {dA : Nat → ClassId} {s0 : Nat} {T : xT} {N : xT} {Z : Nat} {S : Nat} {I : xI} {L : xL} {R : xR} {H : Heap} {locs : List Loc} {ls : Array Slot}  {x0 : Nat} {x1 : Int32} {z0 : Nat} {z1 : Nat} {To : xT} {No : xT} {Zo : Nat} {So : Nat} {Io : xI} {Ro : xR} (X : Cx D dA s0 p m c cX17_init 2 s args RX17 meth) (hr : meth.sig.returnType = none) (hini : meth.name = "<init>")   (hf : fX17_init_b13 T N Z S I R x0 x1 z0 z1 = some (To, No, Zo, So, Io, Ro)) (V : Iv D dA s0 s T N Z I L R H locs) (hl : lv_has ls 2 [(0, .ref x0), (1, .int x1)]) (hB : cells + (Zo - Z) ≤ kc ∧ slots + (So - S) ≤ ks) : W p l e { frames := 4, cells := kc, slots := ks, locals := 81 } s m args below meth c H locs cells slots (MQ below (xQ D dA s0 none To No Zo Io L Ro) args s kc ks (fun q => s0 ≤ q)) (F0 m 13 ls [.ref z1, .ref z0]) := by
  have hx := X.1.1
  have hb := X.1.2.1
  unfold fX17_init_b13 at hf
  replace hf := tg_s hf; obtain ⟨ht1, hf⟩ := hf
  replace hf := nm_s hf; obtain ⟨R2, hR2, hf⟩ := hf
  refine x_putr (pc := 13) X V okX17 (by decide) ht1 1 (by decide) q1106 (Or.inr ⟨rfl, hini, rfl⟩) hR2 (fun _ _ _ => rfl) (v := .ref z1) rfl rfl rfl dX17_init_13 (fun H locs V => ?_)
  refine lv_aload_n (pc := 16) hx hb dX17_init_16 rfl (lv_at hl 0 rfl) ?_
  refine lv_iload_n (pc := 17) hx hb dX17_init_17 rfl (lv_at hl 1 rfl) ?_
  replace hf := tg_s hf; obtain ⟨ht3, hf⟩ := hf
  replace hf := chk_s hf; obtain ⟨hz4, hf⟩ := hf
  replace hf := nm_s hf; obtain ⟨I5, hI5, hf⟩ := hf
  refine x_puti (pc := 18) X V okX17 (by decide) ht3 0 (by decide) q1105 (Or.inr ⟨rfl, hini, rfl⟩) hI5 (fun _ _ _ => rfl) (zb_n hz4) (zb_f hz4) dX17_init_18 (fun H locs V => ?_)
  cases hf
  exact x_vretW (pc := 21) X V hr (by omega) (by omega) dX17_init_21
set_option maxHeartbeats 400000 in
set_option maxRecDepth 100000 in
theorem zX17_init_b8 {T : xT} {N : xT} {Z : Nat} {S : Nat} {I : xI} {R : xR}  {x0 : Nat} {x1 : Int32} {z0 : Nat} {z1 : Nat} {To : xT} {No : xT} {Zo : Nat} {So : Nat} {Io : xI} {Ro : xR}  (hf : fX17_init_b8 T N Z S I R x0 x1 z0 z1 = some (To, No, Zo, So, Io, Ro)) : Z ≤ Zo ∧ S ≤ So := by
  unfold fX17_init_b8 at hf
  replace hf := b6s hf; obtain ⟨T1, N2, Z3, S4, I5, R6, hk_7, hf⟩ := hf
  have hm_hk_7 := zJ2_init hk_7
  have hm := zX17_init_b13 hf
  exact ⟨by omega, by omega⟩
set_option maxHeartbeats 400000 in
set_option maxRecDepth 100000 in
theorem wX17_init_b8 {kc ks : Nat} {cells slots : Nat} {p : Program} {l : Launch} {e : Env} {s : State} {m : MethodId} {args : Array Value} {below : List Frame} {meth : Method} {c : Code} {D : va_G} {dA : Nat → ClassId} {s0 : Nat} {T : xT} {N : xT} {Z : Nat} {S : Nat} {I : xI} {L : xL} {R : xR} {H : Heap} {locs : List Loc} {ls : Array Slot}  {x0 : Nat} {x1 : Int32} {z0 : Nat} {z1 : Nat} {To : xT} {No : xT} {Zo : Nat} {So : Nat} {Io : xI} {Ro : xR} (X : Cx D dA s0 p m c cX17_init 2 s args RX17 meth) (hr : meth.sig.returnType = none) (hini : meth.name = "<init>")   (hf : fX17_init_b8 T N Z S I R x0 x1 z0 z1 = some (To, No, Zo, So, Io, Ro)) (V : Iv D dA s0 s T N Z I L R H locs) (hl : lv_has ls 2 [(0, .ref x0), (1, .int x1)]) (hB : cells + (Zo - Z) ≤ kc ∧ slots + (So - S) ≤ ks) : W p l e { frames := 4, cells := kc, slots := ks, locals := 81 } s m args below meth c H locs cells slots (MQ below (xQ D dA s0 none To No Zo Io L Ro) args s kc ks (fun q => s0 ≤ q)) (F0 m 8 ls [.ref z1, .ref z0]) := by
  have hx := X.1.1
  have hb := X.1.2.1
  unfold fX17_init_b8 at hf
  refine lv_dup (pc := 8) hx hb dX17_init_8 rfl ?_
  refine lv_iconst (pc := 9) (v := (ii 2)) hx hb dX17_init_9 (by decide) ?_
  replace hf := b6s hf; obtain ⟨T1, N2, Z3, S4, I5, R6, hk_7, hf⟩ := hf
  have hm_hk_7 := zJ2_init hk_7
  have hm := zX17_init_b13 hf
  refine x_callI (pc := 10) (As := [.int (ii 2)]) (rest := [.ref z1, .ref z0]) X V (mJ2_init l D dA s0 (kc := Z3 - Z) (ks := S4 - S) (Nat.le_refl _) (Nat.le_refl _) hk_7) q1104 q196 q124 q197 rfl hsJ2_init ⟨Nat.le_of_ble_eq_true rfl, Nat.le_of_ble_eq_true rfl⟩ rfl hl.1 rfl (Nat.le_of_ble_eq_true rfl) dX17_init_10 ⟨by show _ ≤ kc; omega, by show _ ≤ ks; omega⟩ (fun H locs V => W.eq (g2 := F0 m 13 ls [.ref z1, .ref z0]) rfl ?_)
  exact wX17_init_b13 X hr hini hf V (lv_sub hl [0, 1] rfl) ⟨by omega, by omega⟩
set_option maxHeartbeats 400000 in
set_option maxRecDepth 100000 in
theorem zX17_init {T : xT} {N : xT} {Z : Nat} {S : Nat} {I : xI} {R : xR} {x0 : Nat} {x1 : Int32} {To : xT} {No : xT} {Zo : Nat} {So : Nat} {Io : xI} {Ro : xR} (hf : fX17_init T N Z S I R x0 x1 = some (To, No, Zo, So, Io, Ro)) : Z ≤ Zo ∧ S ≤ So := by
  unfold fX17_init at hf
  replace hf := bs hf; obtain ⟨_, hk_1, hf⟩ := hf
  replace hf := nm_s hf; obtain ⟨T2, hT2, hf⟩ := hf
  replace hf := nm_s hf; obtain ⟨Z3, hZ3, hf⟩ := hf
  replace hf := nm_s hf; obtain ⟨S4, hS4, hf⟩ := hf
  have hm := zX17_init_b8 hf
  exact ⟨by omega, by omega⟩
set_option maxHeartbeats 400000 in
set_option maxRecDepth 100000 in
theorem wX17_init_e {kc ks : Nat} {cells slots : Nat} {p : Program} {l : Launch} {e : Env} {s : State} {m : MethodId} {args : Array Value} {below : List Frame} {meth : Method} {c : Code} {D : va_G} {dA : Nat → ClassId} {s0 : Nat} {T : xT} {N : xT} {Z : Nat} {S : Nat} {I : xI} {L : xL} {R : xR} {H : Heap} {locs : List Loc} {ls : Array Slot} {x0 : Nat} {x1 : Int32} {To : xT} {No : xT} {Zo : Nat} {So : Nat} {Io : xI} {Ro : xR} (X : Cx D dA s0 p m c cX17_init 2 s args RX17 meth) (hr : meth.sig.returnType = none) (hini : meth.name = "<init>") (hf : fX17_init T N Z S I R x0 x1 = some (To, No, Zo, So, Io, Ro)) (V : Iv D dA s0 s T N Z I L R H locs) (hl : lv_has ls 2 [(0, .ref x0), (1, .int x1)]) (hB : cells + (Zo - Z) ≤ kc ∧ slots + (So - S) ≤ ks) : W p l e { frames := 4, cells := kc, slots := ks, locals := 81 } s m args below meth c H locs cells slots (MQ below (xQ D dA s0 none To No Zo Io L Ro) args s kc ks (fun q => s0 ≤ q)) (F0 m 0 ls []) := by
  have hx := X.1.1
  have hb := X.1.2.1
  unfold fX17_init at hf
  refine lv_aload_n (pc := 0) hx hb dX17_init_0 rfl (lv_at hl 0 rfl) ?_
  replace hf := bs hf; obtain ⟨_, hk_1, hf⟩ := hf
  refine x_callIN0 (pc := 1) (As := []) (rest := []) X V (mX14_init_rX17 l D dA s0 hk_1) q1102 q1073 q144 q1074 rfl hsX14_init_rX17 ⟨Nat.le_of_ble_eq_true rfl, Nat.le_of_ble_eq_true rfl⟩ rfl hl.1 rfl (Nat.le_of_ble_eq_true rfl) dX17_init_1 ⟨by show cells ≤ kc; omega, by show slots ≤ ks; omega⟩ (fun H locs V => W.eq (g2 := F0 m 4 ls []) rfl ?_)
  refine lv_aload_n (pc := 4) hx hb dX17_init_4 rfl (lv_at hl 0 rfl) ?_
  replace hf := nm_s hf; obtain ⟨T2, hT2, hf⟩ := hf
  replace hf := nm_s hf; obtain ⟨Z3, hZ3, hf⟩ := hf
  replace hf := nm_s hf; obtain ⟨S4, hS4, hf⟩ := hf
  have hm := zX17_init_b8 hf
  refine x_new (pc := 5) X V okJ2 hT2 hZ3 q1103 q194 q124 (by show _ ≤ kc; omega) (by show _ ≤ ks; omega) dX17_init_5 (fun H V => ?_)
  exact wX17_init_b8 X hr hini hf V (lv_sub hl [0, 1] rfl) ⟨by omega, by omega⟩
theorem mX17_init (l : Launch) (D : va_G) (dA : Nat → ClassId) (s0 : Nat) {kc ks : Nat} {T : xT} {N : xT} {Z : Nat} {S : Nat} {I : xI} {L : xL} {R : xR} {x0 : Nat} {x1 : Int32} {To : xT} {No : xT} {Zo : Nat} {So : Nat} {Io : xI} {Ro : xR} (hZ : Zo - Z ≤ kc) (hS : So - S ≤ ks) (hf : fX17_init T N Z S I R x0 x1 = some (To, No, Zo, So, Io, Ro)) : XMet l D dA s0 yX17_init (ws_ yX17_init cX17_init 2 (none)) (4) (81) [.ref x0, .int x1] T N Z I L R none To No Zo Io L Ro kc ks :=
  x_start (own := RX17) rfl (by decide) (Nat.le_of_ble_eq_true rfl) (lv := [(0, .ref x0), (1, .int x1)]) rfl (fun p e s m below meth c ls X hr hini V hl => wX17_init_e X hr hini hf V hl ⟨by omega, by omega⟩)
set_option maxHeartbeats 400000 in
set_option maxRecDepth 100000 in
theorem wX18_init_e {p : Program} {l : Launch} {e : Env} {s : State} {m : MethodId} {args : Array Value} {below : List Frame} {meth : Method} {c : Code} {D : va_G} {dA : Nat → ClassId} {s0 : Nat} {T : xT} {N : xT} {Z : Nat} {I : xI} {L : xL} {R : xR} {H : Heap} {locs : List Loc} {ls : Array Slot} {x0 : Nat} {x1 : Int32} {Io : xI} (X : Cx D dA s0 p m c cX18_init 2 s args RX18 meth) (hr : meth.sig.returnType = none) (hini : meth.name = "<init>") (hf : fX18_init T I x0 x1 = some Io) (V : Iv D dA s0 s T N Z I L R H locs) (hl : lv_has ls 2 [(0, .ref x0), (1, .int x1)]) : W p l e { frames := 1, cells := 0, slots := 0, locals := 20 } s m args below meth c H locs 0 0 (MQ below (xQ D dA s0 none T N Z Io L R) args s 0 0 (fun q => s0 ≤ q)) (F0 m 0 ls []) := by
  have hx := X.1.1
  have hb := X.1.2.1
  unfold fX18_init at hf
  refine lv_aload_n (pc := 0) hx hb dX18_init_0 rfl (lv_at hl 0 rfl) ?_
  refine x_objInit (pc := 1) X q1148 q161 q162 hl.1 (Nat.le_of_ble_eq_true rfl) (Nat.le_of_ble_eq_true rfl) dX18_init_1 ?_
  refine lv_aload_n (pc := 4) hx hb dX18_init_4 rfl (lv_at hl 0 rfl) ?_
  refine lv_iconst (pc := 5) (v := (ii 1)) hx hb dX18_init_5 (by decide) ?_
  replace hf := tg_s hf; obtain ⟨ht1, hf⟩ := hf
  replace hf := nm_s hf; obtain ⟨I2, hI2, hf⟩ := hf
  refine x_puti (pc := 6) X V okX18 (by decide) ht1 3 (by decide) q1155 (Or.inl rfl) hI2 (fun _ _ _ => rfl) rfl rfl dX18_init_6 (fun H locs V => ?_)
  refine lv_aload_n (pc := 9) hx hb dX18_init_9 rfl (lv_at hl 0 rfl) ?_
  refine lv_iload_n (pc := 10) hx hb dX18_init_10 rfl (lv_at hl 1 rfl) ?_
  replace hf := nm_s hf; obtain ⟨I3, hI3, hf⟩ := hf
  refine x_puti (pc := 11) X V okX18 (by decide) ht1 0 (by decide) q1149 (Or.inr ⟨rfl, hini, rfl⟩) hI3 (fun _ _ _ => rfl) rfl rfl dX18_init_11 (fun H locs V => ?_)
  cases hf
  exact x_vret (pc := 14) X V hr dX18_init_14
theorem mX18_init (l : Launch) (D : va_G) (dA : Nat → ClassId) (s0 : Nat) {T : xT} {N : xT} {Z : Nat} {I : xI} {L : xL} {R : xR} {x0 : Nat} {x1 : Int32} {Io : xI} (hf : fX18_init T I x0 x1 = some Io) : XMet l D dA s0 yX18_init (ws_ yX18_init cX18_init 2 (none)) (1) (20) [.ref x0, .int x1] T N Z I L R none T N Z Io L R 0 0 :=
  x_start (own := RX18) rfl (by decide) (Nat.le_of_ble_eq_true rfl) (lv := [(0, .ref x0), (1, .int x1)]) rfl (fun p e s m below meth c ls X hr hini V hl => wX18_init_e X hr hini hf V hl)
set_option maxHeartbeats 400000 in
set_option maxRecDepth 100000 in
theorem wX18_isNow_e {nf : Nat} {p : Program} {l : Launch} {e : Env} {s : State} {m : MethodId} {args : Array Value} {below : List Frame} {meth : Method} {c : Code} {D : va_G} {dA : Nat → ClassId} {s0 : Nat} {T : xT} {N : xT} {Z : Nat} {I : xI} {L : xL} {R : xR} {H : Heap} {locs : List Loc} {ls : Array Slot} {x0 : Nat} {x1 : Nat} {ro : Int32} (X : Cx D dA s0 p m c cX18_isNow 3 s args RX18 meth) (hr : meth.sig.returnType = (some .boolean)) (htE : c.exceptionTable.toList = [⟨0, 23, 24, 28⟩]) (hf : fX18_isNow nf T N I L R x0 x1 = some ro) (V : Iv D dA s0 s T N Z I L R H locs) (hl : lv_has ls 3 [(0, .ref x0), (1, .ref x1)]) : W p l e { frames := 189, cells := 0, slots := 0, locals := 9308 } s m args below meth c H locs 0 0 (vx_MQ below (yQ D dA s0 (rI (.inr ro)) T N Z I L R) (yX D dA s0 (rI (.inr ro)) T N Z I L R) args s 0 0 (fun q => s0 ≤ q)) (F0 m 0 ls []) := by
  have hx := X.1.1
  have hb := X.1.2.1
  unfold fX18_isNow at hf
  refine lv_aload_n (pc := 0) hx hb dX18_isNow_0 rfl (lv_at hl 0 rfl) ?_
  replace hf := tg_s hf; obtain ⟨ht1, hf⟩ := hf
  refine x_get (pc := 1) X V okX18 ht1 4 (by decide) q1158 (v := va_rf (R x0 4)) rfl dX18_isNow_1 ?_
  replace hf := oc_s hf; rcases hf with ⟨ha2, hf⟩ | ⟨a2, ha2, hf⟩
  · refine x_topn ha2 ?_
    refine lv_ifnullN (pc := 4) (tgt := 18) hx hb dX18_isNow_4 (by decide) ?_
    refine lv_iconst (pc := 18) (v := (ii 1)) hx hb dX18_isNow_18 (by decide) ?_
    refine lv_goto (pc := 19) (tgt := 23) hx hb dX18_isNow_19 (by decide) ?_
    cases hf
    exact y_zret (pc := 23) X V hr (Nat.zero_le _) (Nat.zero_le _) (by decide) dX18_isNow_23
  · refine x_topr ha2 ?_
    refine lv_ifnull (pc := 4) hx hb dX18_isNow_4 ?_
    refine lv_aload_n (pc := 7) hx hb dX18_isNow_7 rfl (lv_at hl 0 rfl) ?_
    refine x_get (pc := 8) X V okX18 ht1 4 (by decide) q1158 (v := va_rf (R x0 4)) rfl dX18_isNow_8 ?_
    refine x_topr ha2 ?_
    refine lv_aload_n (pc := 11) hx hb dX18_isNow_11 rfl (lv_at hl 1 rfl) ?_
    replace hf := bs hf; obtain ⟨r3, hk_4, hf⟩ := hf
    replace hf := xc_s hf; rcases hf with ⟨a5, hr_7, hf⟩ | ⟨v6, hr_7, hf⟩
    · rw [hr_7] at hk_4
      replace hf := tg_s hf; obtain ⟨ht8, hf⟩ := hf
      refine y_afterX (run_Test_is l D dA s0 (nf := nf) 40 (pc := 12) (rest := []) X V hk_4 q1456 ⟨Nat.le_of_ble_eq_true rfl, Nat.le_of_ble_eq_true rfl⟩ hl.1 (Nat.le_of_ble_eq_true rfl) dX18_isNow_12 ⟨Nat.zero_le _, Nat.zero_le _⟩) V (fun H locs V => ?_)
      refine y_catch (pc := 12) X V [] ⟨0, 23, 24, 28⟩ [] htE (by decide) (by decide) (by decide) q1455 q290 okX4 ht8 ?_
      refine lv_astore_n (pc := 24) (lv' := [(2, .ref a5), (0, .ref x0), (1, .ref x1)]) hx hb dX18_isNow_24 rfl hl (by decide) rfl (fun ls hl => ?_)
      refine lv_iconst (pc := 25) (v := (ii 0)) hx hb dX18_isNow_25 (by decide) ?_
      cases hf
      exact y_zret (pc := 26) X V hr (Nat.zero_le _) (Nat.zero_le _) (by decide) dX18_isNow_26
    · rw [hr_7] at hk_4
      refine y_afterR (run_Test_is l D dA s0 (nf := nf) 40 (pc := 12) (rest := []) X V hk_4 q1456 ⟨Nat.le_of_ble_eq_true rfl, Nat.le_of_ble_eq_true rfl⟩ hl.1 (Nat.le_of_ble_eq_true rfl) dX18_isNow_12 ⟨Nat.zero_le _, Nat.zero_le _⟩) V (fun H locs V => W.eq (g2 := F0 m 15 ls [.int v6]) rfl ?_)
      refine lv_if_eq (pc := 15) (tgt := 22) hx hb dX18_isNow_15 (by decide) (fun c9 => ?_) (fun c9 => ?_)
      · replace hf := if_t hf c9
        refine lv_iconst (pc := 22) (v := (ii 0)) hx hb dX18_isNow_22 (by decide) ?_
        cases hf
        exact y_zret (pc := 23) X V hr (Nat.zero_le _) (Nat.zero_le _) (by decide) dX18_isNow_23
      · replace hf := if_f hf c9
        refine lv_iconst (pc := 18) (v := (ii 1)) hx hb dX18_isNow_18 (by decide) ?_
        refine lv_goto (pc := 19) (tgt := 23) hx hb dX18_isNow_19 (by decide) ?_
        cases hf
        exact y_zret (pc := 23) X V hr (Nat.zero_le _) (Nat.zero_le _) (by decide) dX18_isNow_23
theorem mX18_isNow {nf : Nat} (l : Launch) (D : va_G) (dA : Nat → ClassId) (s0 : Nat) {T : xT} {N : xT} {Z : Nat} {I : xI} {L : xL} {R : xR} {x0 : Nat} {x1 : Nat} {ro : Int32} (hf : fX18_isNow nf T N I L R x0 x1 = some ro) : YMet l D dA s0 yX18_isNow (wsW_ yX18_isNow cX18_isNow 3 ((some .boolean)) [(0, 23, 24, 28)]) (189) (9308) [.ref x0, .ref x1] T N Z I L R (rI (.inr ro)) T N Z I L R 0 0 :=
  y_startH (own := RX18) rfl (by decide) (Nat.le_of_ble_eq_true rfl) (lv := [(0, .ref x0), (1, .ref x1)]) rfl rfl (fun p e s m below meth c ls X hr htE V hl => wX18_isNow_e X hr htE hf V hl)
set_option maxHeartbeats 400000 in
set_option maxRecDepth 100000 in
theorem wX18_told_e {p : Program} {l : Launch} {e : Env} {s : State} {m : MethodId} {args : Array Value} {below : List Frame} {meth : Method} {c : Code} {D : va_G} {dA : Nat → ClassId} {s0 : Nat} {T : xT} {N : xT} {Z : Nat} {I : xI} {L : xL} {R : xR} {H : Heap} {locs : List Loc} {ls : Array Slot} {x0 : Nat} {x1 : Nat} {ro : Int32} (X : Cx D dA s0 p m c cX18_told 4 s args RX18 meth) (hr : meth.sig.returnType = (some .int)) (htE : c.exceptionTable.toList = [⟨0, 26, 27, 28⟩]) (hf : fX18_told T N I L R x0 x1 = some ro) (V : Iv D dA s0 s T N Z I L R H locs) (hl : lv_has ls 4 [(0, .ref x0), (1, .ref x1)]) : W p l e { frames := 67, cells := 0, slots := 0, locals := 5748 } s m args below meth c H locs 0 0 (vx_MQ below (yQ D dA s0 (rI (.inr ro)) T N Z I L R) (yX D dA s0 (rI (.inr ro)) T N Z I L R) args s 0 0 (fun q => s0 ≤ q)) (F0 m 0 ls []) := by
  have hx := X.1.1
  have hb := X.1.2.1
  unfold fX18_told at hf
  refine lv_aload_n (pc := 0) hx hb dX18_told_0 rfl (lv_at hl 0 rfl) ?_
  refine lv_aload_n (pc := 1) hx hb dX18_told_1 rfl (lv_at hl 1 rfl) ?_
  replace hf := bs hf; obtain ⟨r1, hk_2, hf⟩ := hf
  replace hf := xc_s hf; rcases hf with ⟨a3, hr_5, hf⟩ | ⟨v4, hr_5, hf⟩
  · rw [hr_5] at hk_2
    replace hf := tg_s hf; obtain ⟨ht6, hf⟩ := hf
    refine y_afterX (run_Sum_of l D dA s0 64 (pc := 2) (rest := []) X V hk_2 q1464 ⟨Nat.le_of_ble_eq_true rfl, Nat.le_of_ble_eq_true rfl⟩ hl.1 (Nat.le_of_ble_eq_true rfl) dX18_told_2 ⟨Nat.zero_le _, Nat.zero_le _⟩) V (fun H locs V => ?_)
    refine y_catch (pc := 2) X V [] ⟨0, 26, 27, 28⟩ [] htE (by decide) (by decide) (by decide) q1455 q290 okX4 ht6 ?_
    refine lv_astore_n (pc := 27) (lv' := [(2, .ref a3), (0, .ref x0), (1, .ref x1)]) hx hb dX18_told_27 rfl hl (by decide) rfl (fun ls hl => ?_)
    refine lv_iconst (pc := 28) (v := (-1 : Int32)) hx hb dX18_told_28 (by decide) ?_
    cases hf
    exact y_iret (pc := 29) X V hr (Nat.zero_le _) (Nat.zero_le _) dX18_told_29
  · rw [hr_5] at hk_2
    refine y_afterR (run_Sum_of l D dA s0 64 (pc := 2) (rest := []) X V hk_2 q1464 ⟨Nat.le_of_ble_eq_true rfl, Nat.le_of_ble_eq_true rfl⟩ hl.1 (Nat.le_of_ble_eq_true rfl) dX18_told_2 ⟨Nat.zero_le _, Nat.zero_le _⟩) V (fun H locs V => W.eq (g2 := F0 m 5 ls [.long v4]) rfl ?_)
    refine lv_lstore_n (pc := 5) (lv' := [(2, .long v4), (0, .ref x0), (1, .ref x1)]) hx hb dX18_told_5 rfl hl (by decide) rfl (fun ls hl => ?_)
    refine lv_lload_n (pc := 6) hx hb dX18_told_6 rfl (lv_at hl 0 rfl) ?_
    refine lv_lconst (pc := 7) (v := (jj 0)) hx hb dX18_told_7 (by decide) ?_
    refine lc_lt (pc := 8) (tgt := 20) hx hb dX18_told_8 dX18_told_9 (by decide) (fun c7 => ?_) (fun c7 => ?_)
    · replace hf := if_t hf c7
      refine lv_iconst (pc := 20) (v := (-1 : Int32)) hx hb dX18_told_20 (by decide) ?_
      refine lv_goto (pc := 21) (tgt := 26) hx hb dX18_told_21 (by decide) ?_
      cases hf
      exact y_iret (pc := 26) X V hr (Nat.zero_le _) (Nat.zero_le _) dX18_told_26
    · replace hf := if_f hf c7
      refine lv_lload_n (pc := 12) hx hb dX18_told_12 rfl (lv_at hl 0 rfl) ?_
      refine lv_ldc2 (pc := 13) (v := (jj 1000000)) hx hb X.1.2.2.2.1 (X.1.2.2.2.2 _ q1465) dX18_told_13 ?_
      refine lc_lt (pc := 16) (tgt := 24) hx hb dX18_told_16 dX18_told_17 (by decide) (fun c8 => ?_) (fun c8 => ?_)
      · replace hf := if_t hf c8
        refine lv_lload_n (pc := 24) hx hb dX18_told_24 rfl (lv_at hl 0 rfl) ?_
        refine lv_l2i (pc := 25) hx hb dX18_told_25 rfl ?_
        cases hf
        exact y_iret (pc := 26) X V hr (Nat.zero_le _) (Nat.zero_le _) dX18_told_26
      · replace hf := if_f hf c8
        refine lv_iconst (pc := 20) (v := (-1 : Int32)) hx hb dX18_told_20 (by decide) ?_
        refine lv_goto (pc := 21) (tgt := 26) hx hb dX18_told_21 (by decide) ?_
        cases hf
        exact y_iret (pc := 26) X V hr (Nat.zero_le _) (Nat.zero_le _) dX18_told_26
theorem mX18_told (l : Launch) (D : va_G) (dA : Nat → ClassId) (s0 : Nat) {T : xT} {N : xT} {Z : Nat} {I : xI} {L : xL} {R : xR} {x0 : Nat} {x1 : Nat} {ro : Int32} (hf : fX18_told T N I L R x0 x1 = some ro) : YMet l D dA s0 yX18_told (wsW_ yX18_told cX18_told 4 ((some .int)) [(0, 26, 27, 28)]) (67) (5748) [.ref x0, .ref x1] T N Z I L R (rI (.inr ro)) T N Z I L R 0 0 :=
  y_startH (own := RX18) rfl (by decide) (Nat.le_of_ble_eq_true rfl) (lv := [(0, .ref x0), (1, .ref x1)]) rfl rfl (fun p e s m below meth c ls X hr htE V hl => wX18_told_e X hr htE hf V hl)
set_option maxHeartbeats 400000 in
set_option maxRecDepth 100000 in
theorem wX19_told_b7 {nf : Nat} {p : Program} {l : Launch} {e : Env} {s : State} {m : MethodId} {args : Array Value} {below : List Frame} {meth : Method} {c : Code} {D : va_G} {dA : Nat → ClassId} {s0 : Nat} {T : xT} {N : xT} {Z : Nat} {I : xI} {L : xL} {R : xR}  {ro : Int64} (X : Cx D dA s0 p m c cX19_told 8 s args RX19 meth) (hr : meth.sig.returnType = (some .long))   (k : Nat) : ∀ {x0 : Nat} {x1 : Int32} {x2 : Nat} {x3 : Int64} {x5 : Int32} {H : Heap} {locs : List Loc} {ls : Array Slot} , fX19_told_b7 nf T N I L R k x0 x1 x2 x3 x5 = some ro → Iv D dA s0 s T N Z I L R H locs → lv_has ls 8 [(0, .ref x0), (1, .int x1), (2, .ref x2), (3, .long x3), (5, .int x5)] → W p l e { frames := 190, cells := 0, slots := 0, locals := 9330 } s m args below meth c H locs 0 0 (MQ below (xQ D dA s0 (some (.long ro)) T N Z I L R) args s 0 0 (fun q => s0 ≤ q)) (F0 m 7 ls []) := by
  have hx := X.1.1
  have hb := X.1.2.1
  induction k with
  | zero =>
    intro x0 x1 x2 x3 x5 H locs ls hf V hl
    exact absurd (show none = some _ from hf) (fun q => nomatch q)
  | succ k ih =>
    intro x0 x1 x2 x3 x5 H locs ls hf V hl
    rw [fX19_told_b7] at hf
    refine lv_iload (pc := 7) hx hb dX19_told_7 (lv_at hl 4 rfl) ?_
    refine lv_aload_n (pc := 9) hx hb dX19_told_9 rfl (lv_at hl 0 rfl) ?_
    replace hf := tg_s hf; obtain ⟨ht1, hf⟩ := hf
    replace hf := bs hf; obtain ⟨a2, ha2, hf⟩ := hf
    refine x_get (pc := 10) X V okX19 ht1 0 (by decide) q1194 (v := va_rf (R x0 0)) rfl dX19_told_10 ?_
    refine x_topr ha2 ?_
    replace hf := tg_s hf; obtain ⟨ht5, hf⟩ := hf
    replace hf := bs hf; obtain ⟨r3, hk_4, hf⟩ := hf
    refine x_callV0 (pc := 13) (As := []) (rest := [.int x5]) X V (mJ2_size l D dA s0 hk_4) okJ2 ht5 q622 q623 q624 q124 q625 ⟨rfl, hsJ2_size⟩ ⟨Nat.le_of_ble_eq_true rfl, Nat.le_of_ble_eq_true rfl⟩ rfl hl.1 rfl (Nat.le_of_ble_eq_true rfl) dX19_told_13 ⟨Nat.zero_le _, Nat.zero_le _⟩ (fun H locs V => W.eq (g2 := F0 m 16 ls [.int r3, .int x5]) rfl ?_)
    refine lv_icmp_ge (pc := 16) (tgt := 77) hx hb dX19_told_16 (by decide) (fun c6 => ?_) (fun c6 => ?_)
    · replace hf := if_t hf c6
      refine lv_lload_n (pc := 77) hx hb dX19_told_77 rfl (lv_at hl 3 rfl) ?_
      cases hf
      exact x_lret (pc := 78) X V hr dX19_told_78
    · replace hf := if_f hf c6
      refine lv_aload_n (pc := 19) hx hb dX19_told_19 rfl (lv_at hl 0 rfl) ?_
      refine x_get (pc := 20) X V okX19 ht1 0 (by decide) q1194 (v := va_rf (R x0 0)) rfl dX19_told_20 ?_
      refine x_topr ha2 ?_
      refine lv_iload (pc := 23) hx hb dX19_told_23 (lv_at hl 4 rfl) ?_
      replace hf := bs hf; obtain ⟨r7, hk_8, hf⟩ := hf
      refine x_callV0 (pc := 25) (As := [.int x5]) (rest := []) X V (mJ2_get l D dA s0 hk_8) okJ2 ht5 q626 q603 q604 q124 q605 ⟨rfl, hsJ2_get⟩ ⟨Nat.le_of_ble_eq_true rfl, Nat.le_of_ble_eq_true rfl⟩ rfl hl.1 rfl (Nat.le_of_ble_eq_true rfl) dX19_told_25 ⟨Nat.zero_le _, Nat.zero_le _⟩ (fun H locs V => W.eq (g2 := F0 m 28 ls [.ref r7]) rfl ?_)
      replace hf := tg_s hf; obtain ⟨ht9, hf⟩ := hf
      refine x_castS (pc := 28) X V okX9 ht9 q627 dX19_told_28 ?_
      refine x_getN (pc := 31) X V okX9 ht9 0 (by decide) q885 (v := .int (I r7 0)) rfl dX19_told_31 ?_
      refine lv_iload_n (pc := 34) hx hb dX19_told_34 rfl (lv_at hl 1 rfl) ?_
      refine lv_icmp_eq (pc := 35) (tgt := 41) hx hb dX19_told_35 (by decide) (fun c10 => ?_) (fun c10 => ?_)
      · replace hf := if_t hf c10
        refine lv_aload_n (pc := 41) hx hb dX19_told_41 rfl (lv_at hl 0 rfl) ?_
        refine x_get (pc := 42) X V okX19 ht1 0 (by decide) q1194 (v := va_rf (R x0 0)) rfl dX19_told_42 ?_
        refine x_topr ha2 ?_
        refine lv_iload (pc := 45) hx hb dX19_told_45 (lv_at hl 4 rfl) ?_
        replace hf := bs hf; obtain ⟨r11, hk_12, hf⟩ := hf
        refine x_callV0 (pc := 47) (As := [.int x5]) (rest := []) X V (mJ2_get l D dA s0 hk_12) okJ2 ht5 q626 q603 q604 q124 q605 ⟨rfl, hsJ2_get⟩ ⟨Nat.le_of_ble_eq_true rfl, Nat.le_of_ble_eq_true rfl⟩ rfl hl.1 rfl (Nat.le_of_ble_eq_true rfl) dX19_told_47 ⟨Nat.zero_le _, Nat.zero_le _⟩ (fun H locs V => W.eq (g2 := F0 m 50 ls [.ref r11]) rfl ?_)
        replace hf := tg_s hf; obtain ⟨ht13, hf⟩ := hf
        refine x_castS (pc := 50) X V okX9 ht13 q627 dX19_told_50 ?_
        refine lv_aload_n (pc := 53) hx hb dX19_told_53 rfl (lv_at hl 2 rfl) ?_
        replace hf := bs hf; obtain ⟨r14, hk_15, hf⟩ := hf
        refine y_afterR (y_runVX (pc := 54) (As := [.ref x2]) (rest := []) X V (mX9_tells l D dA s0 hk_15) okX9 ht13 q628 q629 q630 q139 q631 ⟨rfl, hsX9_tells⟩ ⟨Nat.le_of_ble_eq_true rfl, Nat.le_of_ble_eq_true rfl⟩ rfl hl.1 rfl (Nat.le_of_ble_eq_true rfl) dX19_told_54 ⟨Nat.zero_le _, Nat.zero_le _⟩) V (fun H locs V => W.eq (g2 := F0 m 57 ls [.long r14]) rfl ?_)
        refine lv_lstore (pc := 57) (lv' := [(6, .long r14), (0, .ref x0), (1, .int x1), (2, .ref x2), (3, .long x3), (5, .int x5)]) hx hb dX19_told_57 hl (by decide) rfl (fun ls hl => ?_)
        refine lv_lload (pc := 59) hx hb dX19_told_59 (lv_at hl 0 rfl) ?_
        refine lv_ldc2 (pc := 61) (v := (-4000000000 : Int64)) hx hb X.1.2.2.2.1 (X.1.2.2.2.2 _ q621) dX19_told_61 ?_
        refine lc_eq (pc := 64) (tgt := 71) hx hb dX19_told_64 dX19_told_65 (by decide) (fun c16 => ?_) (fun c16 => ?_)
        · replace hf := if_t hf c16
          replace hf := nm_s hf; obtain ⟨u17, hu17, hf⟩ := hf
          refine lv_iinc (pc := 71) (v := u17) (lv' := [(5, .int u17), (6, .long r14), (0, .ref x0), (1, .int x1), (2, .ref x2), (3, .long x3)]) hx hb dX19_told_71 hl (k := 5) rfl (by rw [hu17]; rfl) (by decide) rfl (fun ls hl => ?_)
          refine lv_goto (pc := 74) (tgt := 7) hx hb dX19_told_74 (by decide) ?_
          exact ih hf V (lv_sub hl [2, 3, 4, 5, 0] rfl)
        · replace hf := if_f hf c16
          refine lv_lload (pc := 68) hx hb dX19_told_68 (lv_at hl 0 rfl) ?_
          refine lv_lstore_n (pc := 70) (lv' := [(3, .long r14), (6, .long r14), (0, .ref x0), (1, .int x1), (2, .ref x2), (5, .int x5)]) hx hb dX19_told_70 rfl hl (by decide) rfl (fun ls hl => ?_)
          replace hf := nm_s hf; obtain ⟨u18, hu18, hf⟩ := hf
          refine lv_iinc (pc := 71) (v := u18) (lv' := [(5, .int u18), (3, .long r14), (6, .long r14), (0, .ref x0), (1, .int x1), (2, .ref x2)]) hx hb dX19_told_71 hl (k := 5) rfl (by rw [hu18]; rfl) (by decide) rfl (fun ls hl => ?_)
          refine lv_goto (pc := 74) (tgt := 7) hx hb dX19_told_74 (by decide) ?_
          exact ih hf V (lv_sub hl [3, 4, 5, 1, 0] rfl)
      · replace hf := if_f hf c10
        refine lv_goto (pc := 38) (tgt := 71) hx hb dX19_told_38 (by decide) ?_
        replace hf := nm_s hf; obtain ⟨u19, hu19, hf⟩ := hf
        refine lv_iinc (pc := 71) (v := u19) (lv' := [(5, .int u19), (0, .ref x0), (1, .int x1), (2, .ref x2), (3, .long x3)]) hx hb dX19_told_71 hl (k := 4) rfl (by rw [hu19]; rfl) (by decide) rfl (fun ls hl => ?_)
        refine lv_goto (pc := 74) (tgt := 7) hx hb dX19_told_74 (by decide) ?_
        exact ih hf V (lv_sub hl [1, 2, 3, 4, 0] rfl)
set_option maxHeartbeats 400000 in
set_option maxRecDepth 100000 in
theorem wX19_told_e {nf : Nat} {p : Program} {l : Launch} {e : Env} {s : State} {m : MethodId} {args : Array Value} {below : List Frame} {meth : Method} {c : Code} {D : va_G} {dA : Nat → ClassId} {s0 : Nat} {T : xT} {N : xT} {Z : Nat} {I : xI} {L : xL} {R : xR} {H : Heap} {locs : List Loc} {ls : Array Slot} {x0 : Nat} {x1 : Int32} {x2 : Nat} {ro : Int64} (X : Cx D dA s0 p m c cX19_told 8 s args RX19 meth) (hr : meth.sig.returnType = (some .long)) (hf : fX19_told nf T N I L R x0 x1 x2 = some ro) (V : Iv D dA s0 s T N Z I L R H locs) (hl : lv_has ls 8 [(0, .ref x0), (1, .int x1), (2, .ref x2)]) : W p l e { frames := 190, cells := 0, slots := 0, locals := 9330 } s m args below meth c H locs 0 0 (MQ below (xQ D dA s0 (some (.long ro)) T N Z I L R) args s 0 0 (fun q => s0 ≤ q)) (F0 m 0 ls []) := by
  have hx := X.1.1
  have hb := X.1.2.1
  unfold fX19_told at hf
  refine lv_ldc2 (pc := 0) (v := (-4000000000 : Int64)) hx hb X.1.2.2.2.1 (X.1.2.2.2.2 _ q621) dX19_told_0 ?_
  refine lv_lstore_n (pc := 3) (lv' := [(3, .long (-4000000000 : Int64)), (0, .ref x0), (1, .int x1), (2, .ref x2)]) hx hb dX19_told_3 rfl hl (by decide) rfl (fun ls hl => ?_)
  refine lv_iconst (pc := 4) (v := (ii 0)) hx hb dX19_told_4 (by decide) ?_
  refine lv_istore (pc := 5) (lv' := [(5, .int (ii 0)), (3, .long (-4000000000 : Int64)), (0, .ref x0), (1, .int x1), (2, .ref x2)]) hx hb dX19_told_5 hl (by decide) rfl (fun ls hl => ?_)
  exact wX19_told_b7 X hr nf hf V (lv_sub hl [2, 3, 4, 1, 0] rfl)
theorem mX19_told {nf : Nat} (l : Launch) (D : va_G) (dA : Nat → ClassId) (s0 : Nat) {T : xT} {N : xT} {Z : Nat} {I : xI} {L : xL} {R : xR} {x0 : Nat} {x1 : Int32} {x2 : Nat} {ro : Int64} (hf : fX19_told nf T N I L R x0 x1 x2 = some ro) : XMet l D dA s0 yX19_told (ws_ yX19_told cX19_told 8 ((some .long))) (190) (9330) [.ref x0, .int x1, .ref x2] T N Z I L R (some (.long ro)) T N Z I L R 0 0 :=
  x_start (own := RX19) rfl (by decide) (Nat.le_of_ble_eq_true rfl) (lv := [(0, .ref x0), (1, .int x1), (2, .ref x2)]) rfl (fun p e s m below meth c ls X hr hini V hl => wX19_told_e X hr hf V hl)
set_option maxHeartbeats 400000 in
set_option maxRecDepth 100000 in
theorem wX19_init_e {p : Program} {l : Launch} {e : Env} {s : State} {m : MethodId} {args : Array Value} {below : List Frame} {meth : Method} {c : Code} {D : va_G} {dA : Nat → ClassId} {s0 : Nat} {T : xT} {N : xT} {Z : Nat} {I : xI} {L : xL} {R : xR} {H : Heap} {locs : List Loc} {ls : Array Slot} {x0 : Nat} {x1 : Nat} {Ro : xR} (X : Cx D dA s0 p m c cX19_init 2 s args RX19 meth) (hr : meth.sig.returnType = none) (hini : meth.name = "<init>") (hf : fX19_init T R x0 x1 = some Ro) (V : Iv D dA s0 s T N Z I L R H locs) (hl : lv_has ls 2 [(0, .ref x0), (1, .ref x1)]) : W p l e { frames := 1, cells := 0, slots := 0, locals := 20 } s m args below meth c H locs 0 0 (MQ below (xQ D dA s0 none T N Z I L Ro) args s 0 0 (fun q => s0 ≤ q)) (F0 m 0 ls []) := by
  have hx := X.1.1
  have hb := X.1.2.1
  unfold fX19_init at hf
  refine lv_aload_n (pc := 0) hx hb dX19_init_0 rfl (lv_at hl 0 rfl) ?_
  refine x_objInit (pc := 1) X q1193 q161 q162 hl.1 (Nat.le_of_ble_eq_true rfl) (Nat.le_of_ble_eq_true rfl) dX19_init_1 ?_
  refine lv_aload_n (pc := 4) hx hb dX19_init_4 rfl (lv_at hl 0 rfl) ?_
  refine lv_aload_n (pc := 5) hx hb dX19_init_5 rfl (lv_at hl 1 rfl) ?_
  replace hf := tg_s hf; obtain ⟨ht1, hf⟩ := hf
  replace hf := nm_s hf; obtain ⟨R2, hR2, hf⟩ := hf
  refine x_putr (pc := 6) X V okX19 (by decide) ht1 0 (by decide) q1194 (Or.inr ⟨rfl, hini, rfl⟩) hR2 (fun _ _ _ => rfl) (v := .ref x1) rfl rfl rfl dX19_init_6 (fun H locs V => ?_)
  cases hf
  exact x_vret (pc := 9) X V hr dX19_init_9
theorem mX19_init (l : Launch) (D : va_G) (dA : Nat → ClassId) (s0 : Nat) {T : xT} {N : xT} {Z : Nat} {I : xI} {L : xL} {R : xR} {x0 : Nat} {x1 : Nat} {Ro : xR} (hf : fX19_init T R x0 x1 = some Ro) : XMet l D dA s0 yX19_init (ws_ yX19_init cX19_init 2 (none)) (1) (20) [.ref x0, .ref x1] T N Z I L R none T N Z I L Ro 0 0 :=
  x_start (own := RX19) rfl (by decide) (Nat.le_of_ble_eq_true rfl) (lv := [(0, .ref x0), (1, .ref x1)]) rfl (fun p e s m below meth c ls X hr hini V hl => wX19_init_e X hr hini hf V hl)
set_option maxHeartbeats 400000 in
set_option maxRecDepth 100000 in
theorem zX1_init_b71 {T : xT} {N : xT} {Z : Nat} {S : Nat} {I : xI} {R : xR}  {x0 : Nat} {z0 : Nat} {z1 : Nat} {To : xT} {No : xT} {Zo : Nat} {So : Nat} {Io : xI} {Ro : xR}  (hf : fX1_init_b71 T N Z S I R x0 z0 z1 = some (To, No, Zo, So, Io, Ro)) : Z ≤ Zo ∧ S ≤ So := by
  unfold fX1_init_b71 at hf
  replace hf := tg_s hf; obtain ⟨ht1, hf⟩ := hf
  replace hf := nm_s hf; obtain ⟨R2, hR2, hf⟩ := hf
  replace hf := tg_s hf; obtain ⟨ht3, hf⟩ := hf
  replace hf := nm_s hf; obtain ⟨I4, hI4, hf⟩ := hf
  replace hf := nm_s hf; obtain ⟨I5, hI5, hf⟩ := hf
  cases hf
  exact ⟨Nat.le_refl _, Nat.le_refl _⟩
set_option maxHeartbeats 400000 in
set_option maxRecDepth 100000 in
theorem wX1_init_b71 {kc ks : Nat} {cells slots : Nat} {p : Program} {l : Launch} {e : Env} {s : State} {m : MethodId} {args : Array Value} {below : List Frame} {meth : Method} {c : Code} {D : va_G} {dA : Nat → ClassId} {s0 : Nat} {T : xT} {N : xT} {Z : Nat} {S : Nat} {I : xI} {L : xL} {R : xR} {H : Heap} {locs : List Loc} {ls : Array Slot}  {x0 : Nat} {z0 : Nat} {z1 : Nat} {To : xT} {No : xT} {Zo : Nat} {So : Nat} {Io : xI} {Ro : xR} (X : Cx D dA s0 p m c cX1_init 1 s args RX1 meth) (hr : meth.sig.returnType = none) (hini : meth.name = "<init>")   (hf : fX1_init_b71 T N Z S I R x0 z0 z1 = some (To, No, Zo, So, Io, Ro)) (V : Iv D dA s0 s T N Z I L R H locs) (hl : lv_has ls 1 [(0, .ref x0)]) (hB : cells + (Zo - Z) ≤ kc ∧ slots + (So - S) ≤ ks) : W p l e { frames := 4, cells := kc, slots := ks, locals := 81 } s m args below meth c H locs cells slots (MQ below (xQ D dA s0 none To No Zo Io L Ro) args s kc ks (fun q => s0 ≤ q)) (F0 m 71 ls [.ref z1, .ref z0]) := by
  have hx := X.1.1
  have hb := X.1.2.1
  unfold fX1_init_b71 at hf
  replace hf := tg_s hf; obtain ⟨ht1, hf⟩ := hf
  replace hf := nm_s hf; obtain ⟨R2, hR2, hf⟩ := hf
  refine x_putr (pc := 71) X V okX1 (by decide) ht1 7 (by decide) q235 (Or.inr ⟨rfl, hini, rfl⟩) hR2 (fun _ _ _ => rfl) (v := .ref z1) rfl rfl rfl dX1_init_71 (fun H locs V => ?_)
  refine lv_aload_n (pc := 74) hx hb dX1_init_74 rfl (lv_at hl 0 rfl) ?_
  refine lv_iconst (pc := 75) (v := (ii 1)) hx hb dX1_init_75 (by decide) ?_
  replace hf := tg_s hf; obtain ⟨ht3, hf⟩ := hf
  replace hf := nm_s hf; obtain ⟨I4, hI4, hf⟩ := hf
  refine x_puti (pc := 76) X V okX1 (by decide) ht3 11 (by decide) q243 (Or.inl rfl) hI4 (fun _ _ _ => rfl) rfl rfl dX1_init_76 (fun H locs V => ?_)
  refine lv_aload_n (pc := 79) hx hb dX1_init_79 rfl (lv_at hl 0 rfl) ?_
  refine lv_iconst (pc := 80) (v := (-1 : Int32)) hx hb dX1_init_80 (by decide) ?_
  replace hf := nm_s hf; obtain ⟨I5, hI5, hf⟩ := hf
  refine x_puti (pc := 81) X V okX1 (by decide) ht3 13 (by decide) q247 (Or.inl rfl) hI5 (fun _ _ _ => rfl) rfl rfl dX1_init_81 (fun H locs V => ?_)
  cases hf
  exact x_vretW (pc := 84) X V hr (by omega) (by omega) dX1_init_84
set_option maxHeartbeats 400000 in
set_option maxRecDepth 100000 in
theorem zX1_init_b66 {T : xT} {N : xT} {Z : Nat} {S : Nat} {I : xI} {R : xR}  {x0 : Nat} {z0 : Nat} {z1 : Nat} {To : xT} {No : xT} {Zo : Nat} {So : Nat} {Io : xI} {Ro : xR}  (hf : fX1_init_b66 T N Z S I R x0 z0 z1 = some (To, No, Zo, So, Io, Ro)) : Z ≤ Zo ∧ S ≤ So := by
  unfold fX1_init_b66 at hf
  replace hf := b6s hf; obtain ⟨T1, N2, Z3, S4, I5, R6, hk_7, hf⟩ := hf
  have hm_hk_7 := zJ2_init hk_7
  have hm := zX1_init_b71 hf
  exact ⟨by omega, by omega⟩
set_option maxHeartbeats 400000 in
set_option maxRecDepth 100000 in
theorem wX1_init_b66 {kc ks : Nat} {cells slots : Nat} {p : Program} {l : Launch} {e : Env} {s : State} {m : MethodId} {args : Array Value} {below : List Frame} {meth : Method} {c : Code} {D : va_G} {dA : Nat → ClassId} {s0 : Nat} {T : xT} {N : xT} {Z : Nat} {S : Nat} {I : xI} {L : xL} {R : xR} {H : Heap} {locs : List Loc} {ls : Array Slot}  {x0 : Nat} {z0 : Nat} {z1 : Nat} {To : xT} {No : xT} {Zo : Nat} {So : Nat} {Io : xI} {Ro : xR} (X : Cx D dA s0 p m c cX1_init 1 s args RX1 meth) (hr : meth.sig.returnType = none) (hini : meth.name = "<init>")   (hf : fX1_init_b66 T N Z S I R x0 z0 z1 = some (To, No, Zo, So, Io, Ro)) (V : Iv D dA s0 s T N Z I L R H locs) (hl : lv_has ls 1 [(0, .ref x0)]) (hB : cells + (Zo - Z) ≤ kc ∧ slots + (So - S) ≤ ks) : W p l e { frames := 4, cells := kc, slots := ks, locals := 81 } s m args below meth c H locs cells slots (MQ below (xQ D dA s0 none To No Zo Io L Ro) args s kc ks (fun q => s0 ≤ q)) (F0 m 66 ls [.ref z1, .ref z0]) := by
  have hx := X.1.1
  have hb := X.1.2.1
  unfold fX1_init_b66 at hf
  refine lv_dup (pc := 66) hx hb dX1_init_66 rfl ?_
  refine lv_iconst (pc := 67) (v := (ii 2)) hx hb dX1_init_67 (by decide) ?_
  replace hf := b6s hf; obtain ⟨T1, N2, Z3, S4, I5, R6, hk_7, hf⟩ := hf
  have hm_hk_7 := zJ2_init hk_7
  have hm := zX1_init_b71 hf
  refine x_callI (pc := 68) (As := [.int (ii 2)]) (rest := [.ref z1, .ref z0]) X V (mJ2_init l D dA s0 (kc := Z3 - Z) (ks := S4 - S) (Nat.le_refl _) (Nat.le_refl _) hk_7) q195 q196 q124 q197 rfl hsJ2_init ⟨Nat.le_of_ble_eq_true rfl, Nat.le_of_ble_eq_true rfl⟩ rfl hl.1 rfl (Nat.le_of_ble_eq_true rfl) dX1_init_68 ⟨by show _ ≤ kc; omega, by show _ ≤ ks; omega⟩ (fun H locs V => W.eq (g2 := F0 m 71 ls [.ref z1, .ref z0]) rfl ?_)
  exact wX1_init_b71 X hr hini hf V (lv_sub hl [0] rfl) ⟨by omega, by omega⟩
set_option maxHeartbeats 400000 in
set_option maxRecDepth 100000 in
theorem zX1_init_b59 {T : xT} {N : xT} {Z : Nat} {S : Nat} {I : xI} {R : xR}  {x0 : Nat} {z0 : Nat} {z1 : Nat} {To : xT} {No : xT} {Zo : Nat} {So : Nat} {Io : xI} {Ro : xR}  (hf : fX1_init_b59 T N Z S I R x0 z0 z1 = some (To, No, Zo, So, Io, Ro)) : Z ≤ Zo ∧ S ≤ So := by
  unfold fX1_init_b59 at hf
  replace hf := tg_s hf; obtain ⟨ht1, hf⟩ := hf
  replace hf := nm_s hf; obtain ⟨R2, hR2, hf⟩ := hf
  replace hf := nm_s hf; obtain ⟨T3, hT3, hf⟩ := hf
  replace hf := nm_s hf; obtain ⟨Z4, hZ4, hf⟩ := hf
  replace hf := nm_s hf; obtain ⟨S5, hS5, hf⟩ := hf
  have hm := zX1_init_b66 hf
  exact ⟨by omega, by omega⟩
set_option maxHeartbeats 400000 in
set_option maxRecDepth 100000 in
theorem wX1_init_b59 {kc ks : Nat} {cells slots : Nat} {p : Program} {l : Launch} {e : Env} {s : State} {m : MethodId} {args : Array Value} {below : List Frame} {meth : Method} {c : Code} {D : va_G} {dA : Nat → ClassId} {s0 : Nat} {T : xT} {N : xT} {Z : Nat} {S : Nat} {I : xI} {L : xL} {R : xR} {H : Heap} {locs : List Loc} {ls : Array Slot}  {x0 : Nat} {z0 : Nat} {z1 : Nat} {To : xT} {No : xT} {Zo : Nat} {So : Nat} {Io : xI} {Ro : xR} (X : Cx D dA s0 p m c cX1_init 1 s args RX1 meth) (hr : meth.sig.returnType = none) (hini : meth.name = "<init>")   (hf : fX1_init_b59 T N Z S I R x0 z0 z1 = some (To, No, Zo, So, Io, Ro)) (V : Iv D dA s0 s T N Z I L R H locs) (hl : lv_has ls 1 [(0, .ref x0)]) (hB : cells + (Zo - Z) ≤ kc ∧ slots + (So - S) ≤ ks) : W p l e { frames := 4, cells := kc, slots := ks, locals := 81 } s m args below meth c H locs cells slots (MQ below (xQ D dA s0 none To No Zo Io L Ro) args s kc ks (fun q => s0 ≤ q)) (F0 m 59 ls [.ref z1, .ref z0]) := by
  have hx := X.1.1
  have hb := X.1.2.1
  unfold fX1_init_b59 at hf
  replace hf := tg_s hf; obtain ⟨ht1, hf⟩ := hf
  replace hf := nm_s hf; obtain ⟨R2, hR2, hf⟩ := hf
  refine x_putr (pc := 59) X V okX1 (by decide) ht1 6 (by decide) q233 (Or.inr ⟨rfl, hini, rfl⟩) hR2 (fun _ _ _ => rfl) (v := .ref z1) rfl rfl rfl dX1_init_59 (fun H locs V => ?_)
  refine lv_aload_n (pc := 62) hx hb dX1_init_62 rfl (lv_at hl 0 rfl) ?_
  replace hf := nm_s hf; obtain ⟨T3, hT3, hf⟩ := hf
  replace hf := nm_s hf; obtain ⟨Z4, hZ4, hf⟩ := hf
  replace hf := nm_s hf; obtain ⟨S5, hS5, hf⟩ := hf
  have hm := zX1_init_b66 hf
  refine x_new (pc := 63) X V okJ2 hT3 hZ4 q193 q194 q124 (by show _ ≤ kc; omega) (by show _ ≤ ks; omega) dX1_init_63 (fun H V => ?_)
  exact wX1_init_b66 X hr hini hf V (lv_sub hl [0] rfl) ⟨by omega, by omega⟩
set_option maxHeartbeats 400000 in
set_option maxRecDepth 100000 in
theorem zX1_init_b51 {T : xT} {N : xT} {Z : Nat} {S : Nat} {I : xI} {R : xR}  {x0 : Nat} {z0 : Nat} {z1 : Nat} {To : xT} {No : xT} {Zo : Nat} {So : Nat} {Io : xI} {Ro : xR}  (hf : fX1_init_b51 T N Z S I R x0 z0 z1 = some (To, No, Zo, So, Io, Ro)) : Z ≤ Zo ∧ S ≤ So := by
  unfold fX1_init_b51 at hf
  replace hf := tg_s hf; obtain ⟨ht1, hf⟩ := hf
  replace hf := nm_s hf; obtain ⟨R2, hR2, hf⟩ := hf
  replace hf := nm_s hf; obtain ⟨T3, hT3, hf⟩ := hf
  replace hf := nm_s hf; obtain ⟨N4, hN4, hf⟩ := hf
  replace hf := nm_s hf; obtain ⟨Z5, hZ5, hf⟩ := hf
  replace hf := nm_s hf; obtain ⟨S6, hS6, hf⟩ := hf
  have hm := zX1_init_b59 hf
  exact ⟨by omega, by omega⟩
set_option maxHeartbeats 400000 in
set_option maxRecDepth 100000 in
theorem wX1_init_b51 {kc ks : Nat} {cells slots : Nat} {p : Program} {l : Launch} {e : Env} {s : State} {m : MethodId} {args : Array Value} {below : List Frame} {meth : Method} {c : Code} {D : va_G} {dA : Nat → ClassId} {s0 : Nat} {T : xT} {N : xT} {Z : Nat} {S : Nat} {I : xI} {L : xL} {R : xR} {H : Heap} {locs : List Loc} {ls : Array Slot}  {x0 : Nat} {z0 : Nat} {z1 : Nat} {To : xT} {No : xT} {Zo : Nat} {So : Nat} {Io : xI} {Ro : xR} (X : Cx D dA s0 p m c cX1_init 1 s args RX1 meth) (hr : meth.sig.returnType = none) (hini : meth.name = "<init>")   (hf : fX1_init_b51 T N Z S I R x0 z0 z1 = some (To, No, Zo, So, Io, Ro)) (V : Iv D dA s0 s T N Z I L R H locs) (hl : lv_has ls 1 [(0, .ref x0)]) (hB : cells + (Zo - Z) ≤ kc ∧ slots + (So - S) ≤ ks) : W p l e { frames := 4, cells := kc, slots := ks, locals := 81 } s m args below meth c H locs cells slots (MQ below (xQ D dA s0 none To No Zo Io L Ro) args s kc ks (fun q => s0 ≤ q)) (F0 m 51 ls [.ref z1, .ref z0]) := by
  have hx := X.1.1
  have hb := X.1.2.1
  unfold fX1_init_b51 at hf
  replace hf := tg_s hf; obtain ⟨ht1, hf⟩ := hf
  replace hf := nm_s hf; obtain ⟨R2, hR2, hf⟩ := hf
  refine x_putr (pc := 51) X V okX1 (by decide) ht1 5 (by decide) q231 (Or.inr ⟨rfl, hini, rfl⟩) hR2 (fun _ _ _ => rfl) (v := .ref z1) rfl rfl rfl dX1_init_51 (fun H locs V => ?_)
  refine lv_aload_n (pc := 54) hx hb dX1_init_54 rfl (lv_at hl 0 rfl) ?_
  refine lv_bipush (pc := 55) (v := (ii 6)) hx hb dX1_init_55 (by decide) ?_
  replace hf := nm_s hf; obtain ⟨T3, hT3, hf⟩ := hf
  replace hf := nm_s hf; obtain ⟨N4, hN4, hf⟩ := hf
  replace hf := nm_s hf; obtain ⟨Z5, hZ5, hf⟩ := hf
  replace hf := nm_s hf; obtain ⟨S6, hS6, hf⟩ := hf
  have hm := zX1_init_b59 hf
  refine x_newa (pc := 57) X V (atype := .int) (k := 0) rfl (by decide) q192 (by decide) hT3 hN4 hZ5 (by show _ ≤ kc; omega) (by show _ ≤ ks; omega) dX1_init_57 (fun H V => ?_)
  exact wX1_init_b59 X hr hini hf V (lv_sub hl [0] rfl) ⟨by omega, by omega⟩
set_option maxHeartbeats 400000 in
set_option maxRecDepth 100000 in
theorem zX1_init_b44 {T : xT} {N : xT} {Z : Nat} {S : Nat} {I : xI} {R : xR}  {x0 : Nat} {z0 : Nat} {z1 : Nat} {To : xT} {No : xT} {Zo : Nat} {So : Nat} {Io : xI} {Ro : xR}  (hf : fX1_init_b44 T N Z S I R x0 z0 z1 = some (To, No, Zo, So, Io, Ro)) : Z ≤ Zo ∧ S ≤ So := by
  unfold fX1_init_b44 at hf
  replace hf := tg_s hf; obtain ⟨ht1, hf⟩ := hf
  replace hf := nm_s hf; obtain ⟨R2, hR2, hf⟩ := hf
  replace hf := nm_s hf; obtain ⟨T3, hT3, hf⟩ := hf
  replace hf := nm_s hf; obtain ⟨N4, hN4, hf⟩ := hf
  replace hf := nm_s hf; obtain ⟨Z5, hZ5, hf⟩ := hf
  replace hf := nm_s hf; obtain ⟨S6, hS6, hf⟩ := hf
  have hm := zX1_init_b51 hf
  exact ⟨by omega, by omega⟩
set_option maxHeartbeats 400000 in
set_option maxRecDepth 100000 in
theorem wX1_init_b44 {kc ks : Nat} {cells slots : Nat} {p : Program} {l : Launch} {e : Env} {s : State} {m : MethodId} {args : Array Value} {below : List Frame} {meth : Method} {c : Code} {D : va_G} {dA : Nat → ClassId} {s0 : Nat} {T : xT} {N : xT} {Z : Nat} {S : Nat} {I : xI} {L : xL} {R : xR} {H : Heap} {locs : List Loc} {ls : Array Slot}  {x0 : Nat} {z0 : Nat} {z1 : Nat} {To : xT} {No : xT} {Zo : Nat} {So : Nat} {Io : xI} {Ro : xR} (X : Cx D dA s0 p m c cX1_init 1 s args RX1 meth) (hr : meth.sig.returnType = none) (hini : meth.name = "<init>")   (hf : fX1_init_b44 T N Z S I R x0 z0 z1 = some (To, No, Zo, So, Io, Ro)) (V : Iv D dA s0 s T N Z I L R H locs) (hl : lv_has ls 1 [(0, .ref x0)]) (hB : cells + (Zo - Z) ≤ kc ∧ slots + (So - S) ≤ ks) : W p l e { frames := 4, cells := kc, slots := ks, locals := 81 } s m args below meth c H locs cells slots (MQ below (xQ D dA s0 none To No Zo Io L Ro) args s kc ks (fun q => s0 ≤ q)) (F0 m 44 ls [.ref z1, .ref z0]) := by
  have hx := X.1.1
  have hb := X.1.2.1
  unfold fX1_init_b44 at hf
  replace hf := tg_s hf; obtain ⟨ht1, hf⟩ := hf
  replace hf := nm_s hf; obtain ⟨R2, hR2, hf⟩ := hf
  refine x_putr (pc := 44) X V okX1 (by decide) ht1 4 (by decide) q229 (Or.inr ⟨rfl, hini, rfl⟩) hR2 (fun _ _ _ => rfl) (v := .ref z1) rfl rfl rfl dX1_init_44 (fun H locs V => ?_)
  refine lv_aload_n (pc := 47) hx hb dX1_init_47 rfl (lv_at hl 0 rfl) ?_
  refine lv_iconst (pc := 48) (v := (ii 4)) hx hb dX1_init_48 (by decide) ?_
  replace hf := nm_s hf; obtain ⟨T3, hT3, hf⟩ := hf
  replace hf := nm_s hf; obtain ⟨N4, hN4, hf⟩ := hf
  replace hf := nm_s hf; obtain ⟨Z5, hZ5, hf⟩ := hf
  replace hf := nm_s hf; obtain ⟨S6, hS6, hf⟩ := hf
  have hm := zX1_init_b51 hf
  refine x_newa (pc := 49) X V (atype := .int) (k := 0) rfl (by decide) q192 (by decide) hT3 hN4 hZ5 (by show _ ≤ kc; omega) (by show _ ≤ ks; omega) dX1_init_49 (fun H V => ?_)
  exact wX1_init_b51 X hr hini hf V (lv_sub hl [0] rfl) ⟨by omega, by omega⟩
set_option maxHeartbeats 400000 in
set_option maxRecDepth 100000 in
theorem zX1_init_b36 {T : xT} {N : xT} {Z : Nat} {S : Nat} {I : xI} {R : xR}  {x0 : Nat} {z0 : Nat} {z1 : Nat} {To : xT} {No : xT} {Zo : Nat} {So : Nat} {Io : xI} {Ro : xR}  (hf : fX1_init_b36 T N Z S I R x0 z0 z1 = some (To, No, Zo, So, Io, Ro)) : Z ≤ Zo ∧ S ≤ So := by
  unfold fX1_init_b36 at hf
  replace hf := tg_s hf; obtain ⟨ht1, hf⟩ := hf
  replace hf := nm_s hf; obtain ⟨R2, hR2, hf⟩ := hf
  replace hf := nm_s hf; obtain ⟨T3, hT3, hf⟩ := hf
  replace hf := nm_s hf; obtain ⟨N4, hN4, hf⟩ := hf
  replace hf := nm_s hf; obtain ⟨Z5, hZ5, hf⟩ := hf
  replace hf := nm_s hf; obtain ⟨S6, hS6, hf⟩ := hf
  have hm := zX1_init_b44 hf
  exact ⟨by omega, by omega⟩
set_option maxHeartbeats 400000 in
set_option maxRecDepth 100000 in
theorem wX1_init_b36 {kc ks : Nat} {cells slots : Nat} {p : Program} {l : Launch} {e : Env} {s : State} {m : MethodId} {args : Array Value} {below : List Frame} {meth : Method} {c : Code} {D : va_G} {dA : Nat → ClassId} {s0 : Nat} {T : xT} {N : xT} {Z : Nat} {S : Nat} {I : xI} {L : xL} {R : xR} {H : Heap} {locs : List Loc} {ls : Array Slot}  {x0 : Nat} {z0 : Nat} {z1 : Nat} {To : xT} {No : xT} {Zo : Nat} {So : Nat} {Io : xI} {Ro : xR} (X : Cx D dA s0 p m c cX1_init 1 s args RX1 meth) (hr : meth.sig.returnType = none) (hini : meth.name = "<init>")   (hf : fX1_init_b36 T N Z S I R x0 z0 z1 = some (To, No, Zo, So, Io, Ro)) (V : Iv D dA s0 s T N Z I L R H locs) (hl : lv_has ls 1 [(0, .ref x0)]) (hB : cells + (Zo - Z) ≤ kc ∧ slots + (So - S) ≤ ks) : W p l e { frames := 4, cells := kc, slots := ks, locals := 81 } s m args below meth c H locs cells slots (MQ below (xQ D dA s0 none To No Zo Io L Ro) args s kc ks (fun q => s0 ≤ q)) (F0 m 36 ls [.ref z1, .ref z0]) := by
  have hx := X.1.1
  have hb := X.1.2.1
  unfold fX1_init_b36 at hf
  replace hf := tg_s hf; obtain ⟨ht1, hf⟩ := hf
  replace hf := nm_s hf; obtain ⟨R2, hR2, hf⟩ := hf
  refine x_putr (pc := 36) X V okX1 (by decide) ht1 3 (by decide) q227 (Or.inr ⟨rfl, hini, rfl⟩) hR2 (fun _ _ _ => rfl) (v := .ref z1) rfl rfl rfl dX1_init_36 (fun H locs V => ?_)
  refine lv_aload_n (pc := 39) hx hb dX1_init_39 rfl (lv_at hl 0 rfl) ?_
  refine lv_bipush (pc := 40) (v := (ii 10)) hx hb dX1_init_40 (by decide) ?_
  replace hf := nm_s hf; obtain ⟨T3, hT3, hf⟩ := hf
  replace hf := nm_s hf; obtain ⟨N4, hN4, hf⟩ := hf
  replace hf := nm_s hf; obtain ⟨Z5, hZ5, hf⟩ := hf
  replace hf := nm_s hf; obtain ⟨S6, hS6, hf⟩ := hf
  have hm := zX1_init_b44 hf
  refine x_newa (pc := 42) X V (atype := .int) (k := 0) rfl (by decide) q192 (by decide) hT3 hN4 hZ5 (by show _ ≤ kc; omega) (by show _ ≤ ks; omega) dX1_init_42 (fun H V => ?_)
  exact wX1_init_b44 X hr hini hf V (lv_sub hl [0] rfl) ⟨by omega, by omega⟩
set_option maxHeartbeats 400000 in
set_option maxRecDepth 100000 in
theorem zX1_init_b28 {T : xT} {N : xT} {Z : Nat} {S : Nat} {I : xI} {R : xR}  {x0 : Nat} {z0 : Nat} {z1 : Nat} {To : xT} {No : xT} {Zo : Nat} {So : Nat} {Io : xI} {Ro : xR}  (hf : fX1_init_b28 T N Z S I R x0 z0 z1 = some (To, No, Zo, So, Io, Ro)) : Z ≤ Zo ∧ S ≤ So := by
  unfold fX1_init_b28 at hf
  replace hf := tg_s hf; obtain ⟨ht1, hf⟩ := hf
  replace hf := nm_s hf; obtain ⟨R2, hR2, hf⟩ := hf
  replace hf := nm_s hf; obtain ⟨T3, hT3, hf⟩ := hf
  replace hf := nm_s hf; obtain ⟨N4, hN4, hf⟩ := hf
  replace hf := nm_s hf; obtain ⟨Z5, hZ5, hf⟩ := hf
  replace hf := nm_s hf; obtain ⟨S6, hS6, hf⟩ := hf
  have hm := zX1_init_b36 hf
  exact ⟨by omega, by omega⟩
set_option maxHeartbeats 400000 in
set_option maxRecDepth 100000 in
theorem wX1_init_b28 {kc ks : Nat} {cells slots : Nat} {p : Program} {l : Launch} {e : Env} {s : State} {m : MethodId} {args : Array Value} {below : List Frame} {meth : Method} {c : Code} {D : va_G} {dA : Nat → ClassId} {s0 : Nat} {T : xT} {N : xT} {Z : Nat} {S : Nat} {I : xI} {L : xL} {R : xR} {H : Heap} {locs : List Loc} {ls : Array Slot}  {x0 : Nat} {z0 : Nat} {z1 : Nat} {To : xT} {No : xT} {Zo : Nat} {So : Nat} {Io : xI} {Ro : xR} (X : Cx D dA s0 p m c cX1_init 1 s args RX1 meth) (hr : meth.sig.returnType = none) (hini : meth.name = "<init>")   (hf : fX1_init_b28 T N Z S I R x0 z0 z1 = some (To, No, Zo, So, Io, Ro)) (V : Iv D dA s0 s T N Z I L R H locs) (hl : lv_has ls 1 [(0, .ref x0)]) (hB : cells + (Zo - Z) ≤ kc ∧ slots + (So - S) ≤ ks) : W p l e { frames := 4, cells := kc, slots := ks, locals := 81 } s m args below meth c H locs cells slots (MQ below (xQ D dA s0 none To No Zo Io L Ro) args s kc ks (fun q => s0 ≤ q)) (F0 m 28 ls [.ref z1, .ref z0]) := by
  have hx := X.1.1
  have hb := X.1.2.1
  unfold fX1_init_b28 at hf
  replace hf := tg_s hf; obtain ⟨ht1, hf⟩ := hf
  replace hf := nm_s hf; obtain ⟨R2, hR2, hf⟩ := hf
  refine x_putr (pc := 28) X V okX1 (by decide) ht1 2 (by decide) q225 (Or.inr ⟨rfl, hini, rfl⟩) hR2 (fun _ _ _ => rfl) (v := .ref z1) rfl rfl rfl dX1_init_28 (fun H locs V => ?_)
  refine lv_aload_n (pc := 31) hx hb dX1_init_31 rfl (lv_at hl 0 rfl) ?_
  refine lv_bipush (pc := 32) (v := (ii 10)) hx hb dX1_init_32 (by decide) ?_
  replace hf := nm_s hf; obtain ⟨T3, hT3, hf⟩ := hf
  replace hf := nm_s hf; obtain ⟨N4, hN4, hf⟩ := hf
  replace hf := nm_s hf; obtain ⟨Z5, hZ5, hf⟩ := hf
  replace hf := nm_s hf; obtain ⟨S6, hS6, hf⟩ := hf
  have hm := zX1_init_b36 hf
  refine x_newa (pc := 34) X V (atype := .int) (k := 0) rfl (by decide) q192 (by decide) hT3 hN4 hZ5 (by show _ ≤ kc; omega) (by show _ ≤ ks; omega) dX1_init_34 (fun H V => ?_)
  exact wX1_init_b36 X hr hini hf V (lv_sub hl [0] rfl) ⟨by omega, by omega⟩
set_option maxHeartbeats 400000 in
set_option maxRecDepth 100000 in
theorem zX1_init_b20 {T : xT} {N : xT} {Z : Nat} {S : Nat} {I : xI} {R : xR}  {x0 : Nat} {z0 : Nat} {z1 : Nat} {To : xT} {No : xT} {Zo : Nat} {So : Nat} {Io : xI} {Ro : xR}  (hf : fX1_init_b20 T N Z S I R x0 z0 z1 = some (To, No, Zo, So, Io, Ro)) : Z ≤ Zo ∧ S ≤ So := by
  unfold fX1_init_b20 at hf
  replace hf := tg_s hf; obtain ⟨ht1, hf⟩ := hf
  replace hf := nm_s hf; obtain ⟨R2, hR2, hf⟩ := hf
  replace hf := nm_s hf; obtain ⟨T3, hT3, hf⟩ := hf
  replace hf := nm_s hf; obtain ⟨N4, hN4, hf⟩ := hf
  replace hf := nm_s hf; obtain ⟨Z5, hZ5, hf⟩ := hf
  replace hf := nm_s hf; obtain ⟨S6, hS6, hf⟩ := hf
  have hm := zX1_init_b28 hf
  exact ⟨by omega, by omega⟩
set_option maxHeartbeats 400000 in
set_option maxRecDepth 100000 in
theorem wX1_init_b20 {kc ks : Nat} {cells slots : Nat} {p : Program} {l : Launch} {e : Env} {s : State} {m : MethodId} {args : Array Value} {below : List Frame} {meth : Method} {c : Code} {D : va_G} {dA : Nat → ClassId} {s0 : Nat} {T : xT} {N : xT} {Z : Nat} {S : Nat} {I : xI} {L : xL} {R : xR} {H : Heap} {locs : List Loc} {ls : Array Slot}  {x0 : Nat} {z0 : Nat} {z1 : Nat} {To : xT} {No : xT} {Zo : Nat} {So : Nat} {Io : xI} {Ro : xR} (X : Cx D dA s0 p m c cX1_init 1 s args RX1 meth) (hr : meth.sig.returnType = none) (hini : meth.name = "<init>")   (hf : fX1_init_b20 T N Z S I R x0 z0 z1 = some (To, No, Zo, So, Io, Ro)) (V : Iv D dA s0 s T N Z I L R H locs) (hl : lv_has ls 1 [(0, .ref x0)]) (hB : cells + (Zo - Z) ≤ kc ∧ slots + (So - S) ≤ ks) : W p l e { frames := 4, cells := kc, slots := ks, locals := 81 } s m args below meth c H locs cells slots (MQ below (xQ D dA s0 none To No Zo Io L Ro) args s kc ks (fun q => s0 ≤ q)) (F0 m 20 ls [.ref z1, .ref z0]) := by
  have hx := X.1.1
  have hb := X.1.2.1
  unfold fX1_init_b20 at hf
  replace hf := tg_s hf; obtain ⟨ht1, hf⟩ := hf
  replace hf := nm_s hf; obtain ⟨R2, hR2, hf⟩ := hf
  refine x_putr (pc := 20) X V okX1 (by decide) ht1 1 (by decide) q223 (Or.inr ⟨rfl, hini, rfl⟩) hR2 (fun _ _ _ => rfl) (v := .ref z1) rfl rfl rfl dX1_init_20 (fun H locs V => ?_)
  refine lv_aload_n (pc := 23) hx hb dX1_init_23 rfl (lv_at hl 0 rfl) ?_
  refine lv_bipush (pc := 24) (v := (ii 10)) hx hb dX1_init_24 (by decide) ?_
  replace hf := nm_s hf; obtain ⟨T3, hT3, hf⟩ := hf
  replace hf := nm_s hf; obtain ⟨N4, hN4, hf⟩ := hf
  replace hf := nm_s hf; obtain ⟨Z5, hZ5, hf⟩ := hf
  replace hf := nm_s hf; obtain ⟨S6, hS6, hf⟩ := hf
  have hm := zX1_init_b28 hf
  refine x_newa (pc := 26) X V (atype := .int) (k := 0) rfl (by decide) q192 (by decide) hT3 hN4 hZ5 (by show _ ≤ kc; omega) (by show _ ≤ ks; omega) dX1_init_26 (fun H V => ?_)
  exact wX1_init_b28 X hr hini hf V (lv_sub hl [0] rfl) ⟨by omega, by omega⟩
set_option maxHeartbeats 400000 in
set_option maxRecDepth 100000 in
theorem zX1_init_b12 {T : xT} {N : xT} {Z : Nat} {S : Nat} {I : xI} {R : xR}  {x0 : Nat} {z0 : Nat} {z1 : Nat} {To : xT} {No : xT} {Zo : Nat} {So : Nat} {Io : xI} {Ro : xR}  (hf : fX1_init_b12 T N Z S I R x0 z0 z1 = some (To, No, Zo, So, Io, Ro)) : Z ≤ Zo ∧ S ≤ So := by
  unfold fX1_init_b12 at hf
  replace hf := tg_s hf; obtain ⟨ht1, hf⟩ := hf
  replace hf := nm_s hf; obtain ⟨R2, hR2, hf⟩ := hf
  replace hf := nm_s hf; obtain ⟨T3, hT3, hf⟩ := hf
  replace hf := nm_s hf; obtain ⟨N4, hN4, hf⟩ := hf
  replace hf := nm_s hf; obtain ⟨Z5, hZ5, hf⟩ := hf
  replace hf := nm_s hf; obtain ⟨S6, hS6, hf⟩ := hf
  have hm := zX1_init_b20 hf
  exact ⟨by omega, by omega⟩
set_option maxHeartbeats 400000 in
set_option maxRecDepth 100000 in
theorem wX1_init_b12 {kc ks : Nat} {cells slots : Nat} {p : Program} {l : Launch} {e : Env} {s : State} {m : MethodId} {args : Array Value} {below : List Frame} {meth : Method} {c : Code} {D : va_G} {dA : Nat → ClassId} {s0 : Nat} {T : xT} {N : xT} {Z : Nat} {S : Nat} {I : xI} {L : xL} {R : xR} {H : Heap} {locs : List Loc} {ls : Array Slot}  {x0 : Nat} {z0 : Nat} {z1 : Nat} {To : xT} {No : xT} {Zo : Nat} {So : Nat} {Io : xI} {Ro : xR} (X : Cx D dA s0 p m c cX1_init 1 s args RX1 meth) (hr : meth.sig.returnType = none) (hini : meth.name = "<init>")   (hf : fX1_init_b12 T N Z S I R x0 z0 z1 = some (To, No, Zo, So, Io, Ro)) (V : Iv D dA s0 s T N Z I L R H locs) (hl : lv_has ls 1 [(0, .ref x0)]) (hB : cells + (Zo - Z) ≤ kc ∧ slots + (So - S) ≤ ks) : W p l e { frames := 4, cells := kc, slots := ks, locals := 81 } s m args below meth c H locs cells slots (MQ below (xQ D dA s0 none To No Zo Io L Ro) args s kc ks (fun q => s0 ≤ q)) (F0 m 12 ls [.ref z1, .ref z0]) := by
  have hx := X.1.1
  have hb := X.1.2.1
  unfold fX1_init_b12 at hf
  replace hf := tg_s hf; obtain ⟨ht1, hf⟩ := hf
  replace hf := nm_s hf; obtain ⟨R2, hR2, hf⟩ := hf
  refine x_putr (pc := 12) X V okX1 (by decide) ht1 0 (by decide) q221 (Or.inr ⟨rfl, hini, rfl⟩) hR2 (fun _ _ _ => rfl) (v := .ref z1) rfl rfl rfl dX1_init_12 (fun H locs V => ?_)
  refine lv_aload_n (pc := 15) hx hb dX1_init_15 rfl (lv_at hl 0 rfl) ?_
  refine lv_bipush (pc := 16) (v := (ii 10)) hx hb dX1_init_16 (by decide) ?_
  replace hf := nm_s hf; obtain ⟨T3, hT3, hf⟩ := hf
  replace hf := nm_s hf; obtain ⟨N4, hN4, hf⟩ := hf
  replace hf := nm_s hf; obtain ⟨Z5, hZ5, hf⟩ := hf
  replace hf := nm_s hf; obtain ⟨S6, hS6, hf⟩ := hf
  have hm := zX1_init_b20 hf
  refine x_newa (pc := 18) X V (atype := .int) (k := 0) rfl (by decide) q192 (by decide) hT3 hN4 hZ5 (by show _ ≤ kc; omega) (by show _ ≤ ks; omega) dX1_init_18 (fun H V => ?_)
  exact wX1_init_b20 X hr hini hf V (lv_sub hl [0] rfl) ⟨by omega, by omega⟩
set_option maxHeartbeats 400000 in
set_option maxRecDepth 100000 in
theorem zX1_init_b8 {T : xT} {N : xT} {Z : Nat} {S : Nat} {I : xI} {R : xR}  {x0 : Nat} {z0 : Nat} {z1 : Nat} {To : xT} {No : xT} {Zo : Nat} {So : Nat} {Io : xI} {Ro : xR}  (hf : fX1_init_b8 T N Z S I R x0 z0 z1 = some (To, No, Zo, So, Io, Ro)) : Z ≤ Zo ∧ S ≤ So := by
  unfold fX1_init_b8 at hf
  replace hf := b5s hf; obtain ⟨T1, N2, Z3, S4, R5, hk_6, hf⟩ := hf
  have hm_hk_6 := zX2_init hk_6
  have hm := zX1_init_b12 hf
  exact ⟨by omega, by omega⟩
set_option maxHeartbeats 400000 in
set_option maxRecDepth 100000 in
theorem wX1_init_b8 {kc ks : Nat} {cells slots : Nat} {p : Program} {l : Launch} {e : Env} {s : State} {m : MethodId} {args : Array Value} {below : List Frame} {meth : Method} {c : Code} {D : va_G} {dA : Nat → ClassId} {s0 : Nat} {T : xT} {N : xT} {Z : Nat} {S : Nat} {I : xI} {L : xL} {R : xR} {H : Heap} {locs : List Loc} {ls : Array Slot}  {x0 : Nat} {z0 : Nat} {z1 : Nat} {To : xT} {No : xT} {Zo : Nat} {So : Nat} {Io : xI} {Ro : xR} (X : Cx D dA s0 p m c cX1_init 1 s args RX1 meth) (hr : meth.sig.returnType = none) (hini : meth.name = "<init>")   (hf : fX1_init_b8 T N Z S I R x0 z0 z1 = some (To, No, Zo, So, Io, Ro)) (V : Iv D dA s0 s T N Z I L R H locs) (hl : lv_has ls 1 [(0, .ref x0)]) (hB : cells + (Zo - Z) ≤ kc ∧ slots + (So - S) ≤ ks) : W p l e { frames := 4, cells := kc, slots := ks, locals := 81 } s m args below meth c H locs cells slots (MQ below (xQ D dA s0 none To No Zo Io L Ro) args s kc ks (fun q => s0 ≤ q)) (F0 m 8 ls [.ref z1, .ref z0]) := by
  have hx := X.1.1
  have hb := X.1.2.1
  unfold fX1_init_b8 at hf
  refine lv_dup (pc := 8) hx hb dX1_init_8 rfl ?_
  replace hf := b5s hf; obtain ⟨T1, N2, Z3, S4, R5, hk_6, hf⟩ := hf
  have hm_hk_6 := zX2_init hk_6
  have hm := zX1_init_b12 hf
  refine x_callIN (pc := 9) (As := []) (rest := [.ref z1, .ref z0]) X V (mX2_init l D dA s0 (kc := Z3 - Z) (ks := S4 - S) (Nat.le_refl _) (Nat.le_refl _) hk_6) q171 q172 q121 q173 rfl hsX2_init ⟨Nat.le_of_ble_eq_true rfl, Nat.le_of_ble_eq_true rfl⟩ rfl hl.1 rfl (Nat.le_of_ble_eq_true rfl) dX1_init_9 ⟨by show _ ≤ kc; omega, by show _ ≤ ks; omega⟩ (fun H locs V => W.eq (g2 := F0 m 12 ls [.ref z1, .ref z0]) rfl ?_)
  exact wX1_init_b12 X hr hini hf V (lv_sub hl [0] rfl) ⟨by omega, by omega⟩
set_option maxHeartbeats 400000 in
set_option maxRecDepth 100000 in
theorem zX1_init {T : xT} {N : xT} {Z : Nat} {S : Nat} {I : xI} {R : xR} {x0 : Nat} {To : xT} {No : xT} {Zo : Nat} {So : Nat} {Io : xI} {Ro : xR} (hf : fX1_init T N Z S I R x0 = some (To, No, Zo, So, Io, Ro)) : Z ≤ Zo ∧ S ≤ So := by
  unfold fX1_init at hf
  replace hf := nm_s hf; obtain ⟨T1, hT1, hf⟩ := hf
  replace hf := nm_s hf; obtain ⟨Z2, hZ2, hf⟩ := hf
  replace hf := nm_s hf; obtain ⟨S3, hS3, hf⟩ := hf
  have hm := zX1_init_b8 hf
  exact ⟨by omega, by omega⟩
set_option maxHeartbeats 400000 in
set_option maxRecDepth 100000 in
theorem wX1_init_e {kc ks : Nat} {cells slots : Nat} {p : Program} {l : Launch} {e : Env} {s : State} {m : MethodId} {args : Array Value} {below : List Frame} {meth : Method} {c : Code} {D : va_G} {dA : Nat → ClassId} {s0 : Nat} {T : xT} {N : xT} {Z : Nat} {S : Nat} {I : xI} {L : xL} {R : xR} {H : Heap} {locs : List Loc} {ls : Array Slot} {x0 : Nat} {To : xT} {No : xT} {Zo : Nat} {So : Nat} {Io : xI} {Ro : xR} (X : Cx D dA s0 p m c cX1_init 1 s args RX1 meth) (hr : meth.sig.returnType = none) (hini : meth.name = "<init>") (hf : fX1_init T N Z S I R x0 = some (To, No, Zo, So, Io, Ro)) (V : Iv D dA s0 s T N Z I L R H locs) (hl : lv_has ls 1 [(0, .ref x0)]) (hB : cells + (Zo - Z) ≤ kc ∧ slots + (So - S) ≤ ks) : W p l e { frames := 4, cells := kc, slots := ks, locals := 81 } s m args below meth c H locs cells slots (MQ below (xQ D dA s0 none To No Zo Io L Ro) args s kc ks (fun q => s0 ≤ q)) (F0 m 0 ls []) := by
  have hx := X.1.1
  have hb := X.1.2.1
  unfold fX1_init at hf
  refine lv_aload_n (pc := 0) hx hb dX1_init_0 rfl (lv_at hl 0 rfl) ?_
  refine x_objInit (pc := 1) X q168 q161 q162 hl.1 (Nat.le_of_ble_eq_true rfl) (Nat.le_of_ble_eq_true rfl) dX1_init_1 ?_
  refine lv_aload_n (pc := 4) hx hb dX1_init_4 rfl (lv_at hl 0 rfl) ?_
  replace hf := nm_s hf; obtain ⟨T1, hT1, hf⟩ := hf
  replace hf := nm_s hf; obtain ⟨Z2, hZ2, hf⟩ := hf
  replace hf := nm_s hf; obtain ⟨S3, hS3, hf⟩ := hf
  have hm := zX1_init_b8 hf
  refine x_new (pc := 5) X V okX2 hT1 hZ2 q169 q170 q121 (by show _ ≤ kc; omega) (by show _ ≤ ks; omega) dX1_init_5 (fun H V => ?_)
  exact wX1_init_b8 X hr hini hf V (lv_sub hl [0] rfl) ⟨by omega, by omega⟩
theorem mX1_init (l : Launch) (D : va_G) (dA : Nat → ClassId) (s0 : Nat) {kc ks : Nat} {T : xT} {N : xT} {Z : Nat} {S : Nat} {I : xI} {L : xL} {R : xR} {x0 : Nat} {To : xT} {No : xT} {Zo : Nat} {So : Nat} {Io : xI} {Ro : xR} (hZ : Zo - Z ≤ kc) (hS : So - S ≤ ks) (hf : fX1_init T N Z S I R x0 = some (To, No, Zo, So, Io, Ro)) : XMet l D dA s0 yX1_init (ws_ yX1_init cX1_init 1 (none)) (4) (81) [.ref x0] T N Z I L R none To No Zo Io L Ro kc ks :=
  x_start (own := RX1) rfl (by decide) (Nat.le_of_ble_eq_true rfl) (lv := [(0, .ref x0)]) rfl (fun p e s m below meth c ls X hr hini V hl => wX1_init_e X hr hini hf V hl ⟨by omega, by omega⟩)
set_option maxHeartbeats 400000 in
set_option maxRecDepth 100000 in
theorem wJ2_clear_b27 {nf : Nat} {p : Program} {l : Launch} {e : Env} {s : State} {m : MethodId} {args : Array Value} {below : List Frame} {meth : Method} {c : Code} {D : va_G} {dA : Nat → ClassId} {s0 : Nat} {T : xT} {N : xT} {Z : Nat} {L : xL}  {Io : xI} {Ro : xR} (X : Cx D dA s0 p m c cJ2_clear 4 s args RJ2 meth) (hr : meth.sig.returnType = none)   (k : Nat) : ∀ {I : xI} {R : xR} {x1 : Nat} {x2 : Int32} {x3 : Int32} {H : Heap} {locs : List Loc} {ls : Array Slot} , fJ2_clear_b27 nf T N k I R x1 x2 x3 = some (Io, Ro) → Iv D dA s0 s T N Z I L R H locs → lv_has ls 4 [(1, .ref x1), (2, .int x2), (3, .int x3)] → W p l e { frames := 0, cells := 0, slots := 0, locals := 0 } s m args below meth c H locs 0 0 (MQ below (xQ D dA s0 none T N Z Io L Ro) args s 0 0 (fun q => s0 ≤ q)) (F0 m 27 ls []) := by
  have hx := X.1.1
  have hb := X.1.2.1
  induction k with
  | zero =>
    intro I R x1 x2 x3 H locs ls hf V hl
    exact absurd (show none = some _ from hf) (fun q => nomatch q)
  | succ k ih =>
    intro I R x1 x2 x3 H locs ls hf V hl
    rw [fJ2_clear_b27] at hf
    refine lv_iload_n (pc := 27) hx hb dJ2_clear_27 rfl (lv_at hl 2 rfl) ?_
    refine lv_iload_n (pc := 28) hx hb dJ2_clear_28 rfl (lv_at hl 1 rfl) ?_
    refine lv_icmp_ge (pc := 29) (tgt := 42) hx hb dJ2_clear_29 (by decide) (fun c1 => ?_) (fun c1 => ?_)
    · replace hf := if_t hf c1
      cases hf
      exact x_vret (pc := 42) X V hr dJ2_clear_42
    · replace hf := if_f hf c1
      refine lv_aload_n (pc := 32) hx hb dJ2_clear_32 rfl (lv_at hl 0 rfl) ?_
      refine lv_iload_n (pc := 33) hx hb dJ2_clear_33 rfl (lv_at hl 2 rfl) ?_
      refine lv_null (pc := 34) hx hb dJ2_clear_34 ?_
      replace hf := rA_s hf; obtain ⟨j2, hjj2, htj2, hij2, hf⟩ := hf
      replace hf := nm_s hf; obtain ⟨R3, hR3, hf⟩ := hf
      refine x_aastN (pc := 35) X V (k := 4) rfl (by decide) htj2 hij2 hjj2 hR3 dJ2_clear_35 (fun H locs V => ?_)
      replace hf := nm_s hf; obtain ⟨u4, hu4, hf⟩ := hf
      refine lv_iinc (pc := 36) (v := u4) (lv' := [(3, .int u4), (1, .ref x1), (2, .int x2)]) hx hb dJ2_clear_36 hl (k := 2) rfl (by rw [hu4]; rfl) (by decide) rfl (fun ls hl => ?_)
      refine lv_goto (pc := 39) (tgt := 27) hx hb dJ2_clear_39 (by decide) ?_
      exact ih hf V (lv_sub hl [1, 2, 0] rfl)
set_option maxHeartbeats 400000 in
set_option maxRecDepth 100000 in
theorem wJ2_clear_e {nf : Nat} {p : Program} {l : Launch} {e : Env} {s : State} {m : MethodId} {args : Array Value} {below : List Frame} {meth : Method} {c : Code} {D : va_G} {dA : Nat → ClassId} {s0 : Nat} {T : xT} {N : xT} {Z : Nat} {I : xI} {L : xL} {R : xR} {H : Heap} {locs : List Loc} {ls : Array Slot} {x0 : Nat} {Io : xI} {Ro : xR} (X : Cx D dA s0 p m c cJ2_clear 4 s args RJ2 meth) (hr : meth.sig.returnType = none) (hf : fJ2_clear nf T N I R x0 = some (Io, Ro)) (V : Iv D dA s0 s T N Z I L R H locs) (hl : lv_has ls 4 [(0, .ref x0)]) : W p l e { frames := 0, cells := 0, slots := 0, locals := 0 } s m args below meth c H locs 0 0 (MQ below (xQ D dA s0 none T N Z Io L Ro) args s 0 0 (fun q => s0 ≤ q)) (F0 m 0 ls []) := by
  have hx := X.1.1
  have hb := X.1.2.1
  unfold fJ2_clear at hf
  refine lv_aload_n (pc := 0) hx hb dJ2_clear_0 rfl (lv_at hl 0 rfl) ?_
  refine lv_dup (pc := 1) hx hb dJ2_clear_1 rfl ?_
  replace hf := tg_s hf; obtain ⟨ht1, hf⟩ := hf
  refine x_getI (pc := 2) X V okJ2 ht1 0 (by decide) q212 q213 (w := .int (I x0 0)) rfl dJ2_clear_2 ?_
  refine lv_iconst (pc := 5) (v := (ii 1)) hx hb dJ2_clear_5 (by decide) ?_
  refine lv_iadd (pc := 6) hx hb dJ2_clear_6 ?_
  replace hf := nm_s hf; obtain ⟨I2, hI2, hf⟩ := hf
  refine x_putiI (pc := 7) X V okJ2 ht1 0 (by decide) q212 q213 rfl hI2 (fun _ _ _ => rfl) rfl rfl dJ2_clear_7 (fun H locs V => ?_)
  refine lv_aload_n (pc := 10) hx hb dJ2_clear_10 rfl (lv_at hl 0 rfl) ?_
  replace hf := bs hf; obtain ⟨a3, ha3, hf⟩ := hf
  refine x_get (pc := 11) X V okJ2 ht1 1 (by decide) q209 (v := va_rf (R x0 1)) rfl dJ2_clear_11 ?_
  refine x_topr ha3 ?_
  refine lv_astore_n (pc := 14) (lv' := [(1, .ref a3), (0, .ref x0)]) hx hb dJ2_clear_14 rfl hl (by decide) rfl (fun ls hl => ?_)
  refine lv_aload_n (pc := 15) hx hb dJ2_clear_15 rfl (lv_at hl 1 rfl) ?_
  refine x_get (pc := 16) X V okJ2 ht1 2 (by decide) q210 (v := .int (I2 x0 2)) rfl dJ2_clear_16 ?_
  replace hf := nm_s hf; obtain ⟨u4, hu4, hf⟩ := hf
  refine x_topi hu4 ?_
  refine lv_istore_n (pc := 19) (lv' := [(2, .int u4), (1, .ref a3), (0, .ref x0)]) hx hb dJ2_clear_19 rfl hl (by decide) rfl (fun ls hl => ?_)
  refine lv_aload_n (pc := 20) hx hb dJ2_clear_20 rfl (lv_at hl 2 rfl) ?_
  refine lv_iconst (pc := 21) (v := (ii 0)) hx hb dJ2_clear_21 (by decide) ?_
  refine lv_dup_x1 (pc := 22) hx hb dJ2_clear_22 rfl rfl ?_
  replace hf := nm_s hf; obtain ⟨I5, hI5, hf⟩ := hf
  refine x_puti (pc := 23) X V okJ2 (by decide) ht1 2 (by decide) q210 (Or.inl rfl) hI5 (fun _ _ _ => rfl) rfl rfl dJ2_clear_23 (fun H locs V => ?_)
  refine lv_istore_n (pc := 26) (lv' := [(3, .int (ii 0)), (2, .int u4), (1, .ref a3), (0, .ref x0)]) hx hb dJ2_clear_26 rfl hl (by decide) rfl (fun ls hl => ?_)
  exact wJ2_clear_b27 X hr nf hf V (lv_sub hl [2, 1, 0] rfl)
theorem mJ2_clear {nf : Nat} (l : Launch) (D : va_G) (dA : Nat → ClassId) (s0 : Nat) {T : xT} {N : xT} {Z : Nat} {I : xI} {L : xL} {R : xR} {x0 : Nat} {Io : xI} {Ro : xR} (hf : fJ2_clear nf T N I R x0 = some (Io, Ro)) : XMet l D dA s0 yJ2_clear (ws_ yJ2_clear cJ2_clear 4 (none)) (0) (0) [.ref x0] T N Z I L R none T N Z Io L Ro 0 0 :=
  x_start (own := RJ2) rfl (by decide) (Nat.le_of_ble_eq_true rfl) (lv := [(0, .ref x0)]) rfl (fun p e s m below meth c ls X hr hini V hl => wJ2_clear_e X hr hf V hl)
set_option maxHeartbeats 400000 in
set_option maxRecDepth 100000 in
theorem zJ12_copyOf_2_nm3_b10 {T : xT} {N : xT} {Z : Nat} {S : Nat} {R : xR}  {x0 : Nat} {x1 : Int32} {z0 : Nat} {ro : Nat} {To : xT} {No : xT} {Zo : Nat} {So : Nat} {Ro : xR}  (hf : fJ12_copyOf_2_nm3_b10 T N Z S R x0 x1 z0 = some (ro, To, No, Zo, So, Ro)) : Z ≤ Zo ∧ S ≤ So := by
  unfold fJ12_copyOf_2_nm3_b10 at hf
  replace hf := tg_s hf; obtain ⟨ht1, hf⟩ := hf
  replace hf := tg_s hf; obtain ⟨ht2, hf⟩ := hf
  replace hf := chk_s hf; obtain ⟨hq3, hf⟩ := hf
  replace hf := chk_s hf; obtain ⟨hq4, hf⟩ := hf
  replace hf := nm_s hf; obtain ⟨R5, hR5, hf⟩ := hf
  cases hf
  exact ⟨Nat.le_refl _, Nat.le_refl _⟩
set_option maxHeartbeats 400000 in
set_option maxRecDepth 100000 in
theorem wJ12_copyOf_2_nm3_b10 {kc ks : Nat} {cells slots : Nat} {p : Program} {l : Launch} {e : Env} {s : State} {m : MethodId} {args : Array Value} {below : List Frame} {meth : Method} {c : Code} {D : va_G} {dA : Nat → ClassId} {s0 : Nat} {T : xT} {N : xT} {Z : Nat} {S : Nat} {I : xI} {L : xL} {R : xR} {H : Heap} {locs : List Loc} {ls : Array Slot}  {x0 : Nat} {x1 : Int32} {z0 : Nat} {ro : Nat} {To : xT} {No : xT} {Zo : Nat} {So : Nat} {Ro : xR} (X : Cx D dA s0 p m c cJ12_copyOf_2 4 s args RJ12 meth) (hr : meth.sig.returnType = (some (.array (.object "java/lang/Object"))))   (hf : fJ12_copyOf_2_nm3_b10 T N Z S R x0 x1 z0 = some (ro, To, No, Zo, So, Ro)) (V : Iv D dA s0 s T N Z I L R H locs) (hl : lv_has ls 4 [(0, .ref x0), (1, .int x1)]) (hB : cells + (Zo - Z) ≤ kc ∧ slots + (So - S) ≤ ks) : W p l e { frames := 1, cells := kc, slots := ks, locals := 60 } s m args below meth c H locs cells slots (MQ below (xQ D dA s0 (some (.ref ro)) To No Zo I L Ro) args s kc ks (fun q => s0 ≤ q)) (F0 m 10 ls [.ref z0]) := by
  have hx := X.1.1
  have hb := X.1.2.1
  unfold fJ12_copyOf_2_nm3_b10 at hf
  refine lv_goto (pc := 10) (tgt := 24) hx hb dJ12_copyOf_2_10 (by decide) ?_
  refine lv_astore_n (pc := 24) (lv' := [(3, .ref z0), (0, .ref x0), (1, .int x1)]) hx hb dJ12_copyOf_2_24 rfl hl (by decide) rfl (fun ls hl => ?_)
  refine lv_aload_n (pc := 25) hx hb dJ12_copyOf_2_25 rfl (lv_at hl 1 rfl) ?_
  refine lv_iconst (pc := 26) (v := (ii 0)) hx hb dJ12_copyOf_2_26 (by decide) ?_
  refine lv_aload_n (pc := 27) hx hb dJ12_copyOf_2_27 rfl (lv_at hl 0 rfl) ?_
  refine lv_iconst (pc := 28) (v := (ii 0)) hx hb dJ12_copyOf_2_28 (by decide) ?_
  refine lv_aload_n (pc := 29) hx hb dJ12_copyOf_2_29 rfl (lv_at hl 1 rfl) ?_
  replace hf := tg_s hf; obtain ⟨ht1, hf⟩ := hf
  refine x_alen (pc := 30) X V (k := 4) ht1 (by decide) dJ12_copyOf_2_30 ?_
  refine lv_iload_n (pc := 31) hx hb dJ12_copyOf_2_31 rfl (lv_at hl 2 rfl) ?_
  refine va_mmin (pc := 32) hx hb (X.1.2.2.1.trans hl.1.symm) X.1.2.2.2.1 (X.1.2.2.2.2 _ q520) (X.1.2.2.2.2 _ q521) (X.1.2.2.2.2 _ q132) (X.1.2.2.2.2 _ q522) (Nat.le_of_ble_eq_true rfl) (Nat.le_of_ble_eq_true rfl) (by show cells ≤ kc; omega) (by show slots ≤ ks; omega) dJ12_copyOf_2_32 ?_
  replace hf := tg_s hf; obtain ⟨ht2, hf⟩ := hf
  replace hf := chk_s hf; obtain ⟨hq3, hf⟩ := hf
  replace hf := chk_s hf; obtain ⟨hq4, hf⟩ := hf
  replace hf := nm_s hf; obtain ⟨R5, hR5, hf⟩ := hf
  refine x_copyq (pc := 35) X V q523 q469 q468 q150 ht1 ht2 hq3 hq4 hR5 hl.1 (Nat.le_of_ble_eq_true rfl) (Nat.le_of_ble_eq_true rfl) dJ12_copyOf_2_35 (fun H locs V => ?_)
  refine lv_aload_n (pc := 38) hx hb dJ12_copyOf_2_38 rfl (lv_at hl 0 rfl) ?_
  cases hf
  exact x_aretW (pc := 39) X V hr (by omega) (by omega) (Or.inr ⟨_, rfl⟩) dJ12_copyOf_2_39
set_option maxHeartbeats 400000 in
set_option maxRecDepth 100000 in
theorem zJ12_copyOf_2_nm3 {T : xT} {N : xT} {Z : Nat} {S : Nat} {R : xR} {x0 : Nat} {x1 : Int32} {ro : Nat} {To : xT} {No : xT} {Zo : Nat} {So : Nat} {Ro : xR} (hf : fJ12_copyOf_2_nm3 T N Z S R x0 x1 = some (ro, To, No, Zo, So, Ro)) : Z ≤ Zo ∧ S ≤ So := by
  unfold fJ12_copyOf_2_nm3 at hf
  replace hf := chk_s hf; obtain ⟨hq1, hf⟩ := hf
  replace hf := nm_s hf; obtain ⟨T2, hT2, hf⟩ := hf
  replace hf := nm_s hf; obtain ⟨N3, hN3, hf⟩ := hf
  replace hf := nm_s hf; obtain ⟨Z4, hZ4, hf⟩ := hf
  replace hf := nm_s hf; obtain ⟨S5, hS5, hf⟩ := hf
  have hm := zJ12_copyOf_2_nm3_b10 hf
  exact ⟨by omega, by omega⟩
set_option maxHeartbeats 400000 in
set_option maxRecDepth 100000 in
theorem wJ12_copyOf_2_nm3_e {kc ks : Nat} {cells slots : Nat} {p : Program} {l : Launch} {e : Env} {s : State} {m : MethodId} {args : Array Value} {below : List Frame} {meth : Method} {c : Code} {D : va_G} {dA : Nat → ClassId} {s0 : Nat} {T : xT} {N : xT} {Z : Nat} {S : Nat} {I : xI} {L : xL} {R : xR} {H : Heap} {locs : List Loc} {ls : Array Slot} {x0 : Nat} {x1 : Int32} {ro : Nat} {To : xT} {No : xT} {Zo : Nat} {So : Nat} {Ro : xR} (X : Cx D dA s0 p m c cJ12_copyOf_2 4 s args RJ12 meth) (hr : meth.sig.returnType = (some (.array (.object "java/lang/Object")))) (hf : fJ12_copyOf_2_nm3 T N Z S R x0 x1 = some (ro, To, No, Zo, So, Ro)) (V : Iv D dA s0 s T N Z I L R H locs) (hl : lv_has ls 4 [(0, .ref x0), (1, .int x1), (2, .ref (dA 250))]) (hB : cells + (Zo - Z) ≤ kc ∧ slots + (So - S) ≤ ks) : W p l e { frames := 1, cells := kc, slots := ks, locals := 60 } s m args below meth c H locs cells slots (MQ below (xQ D dA s0 (some (.ref ro)) To No Zo I L Ro) args s kc ks (fun q => s0 ≤ q)) (F0 m 0 ls []) := by
  have hx := X.1.1
  have hb := X.1.2.1
  unfold fJ12_copyOf_2_nm3 at hf
  refine lv_aload_n (pc := 0) hx hb dJ12_copyOf_2_0 rfl (lv_at hl 2 rfl) ?_
  refine x_ldcM (pc := 1) X q518 dJ12_copyOf_2_1 ?_
  refine x_acmpM (pc := 3) X dJ12_copyOf_2_3 (tgt := 13) (by decide) ?_
  refine lv_iload_n (pc := 6) hx hb dJ12_copyOf_2_6 rfl (lv_at hl 1 rfl) ?_
  replace hf := chk_s hf; obtain ⟨hq1, hf⟩ := hf
  replace hf := nm_s hf; obtain ⟨T2, hT2, hf⟩ := hf
  replace hf := nm_s hf; obtain ⟨N3, hN3, hf⟩ := hf
  replace hf := nm_s hf; obtain ⟨Z4, hZ4, hf⟩ := hf
  replace hf := nm_s hf; obtain ⟨S5, hS5, hf⟩ := hf
  have hm := zJ12_copyOf_2_nm3_b10 hf
  refine x_anew (pc := 7) X V (k := 4) rfl (by decide) (by decide) q519 hq1 hT2 hN3 hZ4 (by show _ ≤ kc; omega) (by show _ ≤ ks; omega) dJ12_copyOf_2_7 (fun H V => ?_)
  exact wJ12_copyOf_2_nm3_b10 X hr hf V (lv_sub hl [0, 1] rfl) ⟨by omega, by omega⟩
theorem mJ12_copyOf_2_nm3 (l : Launch) (D : va_G) (dA : Nat → ClassId) (s0 : Nat) {kc ks : Nat} {T : xT} {N : xT} {Z : Nat} {S : Nat} {I : xI} {L : xL} {R : xR} {x0 : Nat} {x1 : Int32} {ro : Nat} {To : xT} {No : xT} {Zo : Nat} {So : Nat} {Ro : xR} (hZ : Zo - Z ≤ kc) (hS : So - S ≤ ks) (hf : fJ12_copyOf_2_nm3 T N Z S R x0 x1 = some (ro, To, No, Zo, So, Ro)) : XMet l D dA s0 yJ12_copyOf_2 (ws_ yJ12_copyOf_2 cJ12_copyOf_2 4 ((some (.array (.object "java/lang/Object"))))) (1) (60) [.ref x0, .int x1, .ref (dA 250)] T N Z I L R (some (.ref ro)) To No Zo I L Ro kc ks :=
  x_start (own := RJ12) rfl (by decide) (Nat.le_of_ble_eq_true rfl) (lv := [(0, .ref x0), (1, .int x1), (2, .ref (dA 250))]) rfl (fun p e s m below meth c ls X hr hini V hl => wJ12_copyOf_2_nm3_e X hr hf V hl ⟨by omega, by omega⟩)
set_option maxHeartbeats 400000 in
set_option maxRecDepth 100000 in
theorem zJ12_copyOf_b9 {T : xT} {N : xT} {Z : Nat} {S : Nat} {R : xR}  {z0 : Nat} {ro : Nat} {To : xT} {No : xT} {Zo : Nat} {So : Nat} {Ro : xR}  (hf : fJ12_copyOf_b9 T N Z S R z0 = some (ro, To, No, Zo, So, Ro)) : Z ≤ Zo ∧ S ≤ So := by
  unfold fJ12_copyOf_b9 at hf
  cases hf
  exact ⟨Nat.le_refl _, Nat.le_refl _⟩
set_option maxHeartbeats 400000 in
set_option maxRecDepth 100000 in
theorem wJ12_copyOf_b9 {kc ks : Nat} {cells slots : Nat} {p : Program} {l : Launch} {e : Env} {s : State} {m : MethodId} {args : Array Value} {below : List Frame} {meth : Method} {c : Code} {D : va_G} {dA : Nat → ClassId} {s0 : Nat} {T : xT} {N : xT} {Z : Nat} {S : Nat} {I : xI} {L : xL} {R : xR} {H : Heap} {locs : List Loc} {ls : Array Slot}  {z0 : Nat} {ro : Nat} {To : xT} {No : xT} {Zo : Nat} {So : Nat} {Ro : xR} (X : Cx D dA s0 p m c cJ12_copyOf 2 s args RJ12 meth) (hr : meth.sig.returnType = (some (.array (.object "java/lang/Object"))))   (hf : fJ12_copyOf_b9 T N Z S R z0 = some (ro, To, No, Zo, So, Ro)) (V : Iv D dA s0 s T N Z I L R H locs) (hl : lv_has ls 2 []) (hB : cells + (Zo - Z) ≤ kc ∧ slots + (So - S) ≤ ks) : W p l e { frames := 2, cells := kc, slots := ks, locals := 83 } s m args below meth c H locs cells slots (MQ below (xQ D dA s0 (some (.ref ro)) To No Zo I L Ro) args s kc ks (fun q => s0 ≤ q)) (F0 m 9 ls [.ref z0]) := by
  have hx := X.1.1
  have hb := X.1.2.1
  unfold fJ12_copyOf_b9 at hf
  cases hf
  exact x_aretW (pc := 9) X V hr (by omega) (by omega) (Or.inr ⟨_, rfl⟩) dJ12_copyOf_9
set_option maxHeartbeats 400000 in
set_option maxRecDepth 100000 in
theorem zJ12_copyOf {T : xT} {N : xT} {Z : Nat} {S : Nat} {R : xR} {x0 : Nat} {x1 : Int32} {ro : Nat} {To : xT} {No : xT} {Zo : Nat} {So : Nat} {Ro : xR} (hf : fJ12_copyOf T N Z S R x0 x1 = some (ro, To, No, Zo, So, Ro)) : Z ≤ Zo ∧ S ≤ So := by
  unfold fJ12_copyOf at hf
  replace hf := tg_s hf; obtain ⟨ht1, hf⟩ := hf
  replace hf := b6s hf; obtain ⟨r2, T3, N4, Z5, S6, R7, hk_8, hf⟩ := hf
  have hm_hk_8 := zJ12_copyOf_2_nm3 hk_8
  have hm := zJ12_copyOf_b9 hf
  exact ⟨by omega, by omega⟩
set_option maxHeartbeats 400000 in
set_option maxRecDepth 100000 in
theorem wJ12_copyOf_e {kc ks : Nat} {cells slots : Nat} {p : Program} {l : Launch} {e : Env} {s : State} {m : MethodId} {args : Array Value} {below : List Frame} {meth : Method} {c : Code} {D : va_G} {dA : Nat → ClassId} {s0 : Nat} {T : xT} {N : xT} {Z : Nat} {S : Nat} {I : xI} {L : xL} {R : xR} {H : Heap} {locs : List Loc} {ls : Array Slot} {x0 : Nat} {x1 : Int32} {ro : Nat} {To : xT} {No : xT} {Zo : Nat} {So : Nat} {Ro : xR} (X : Cx D dA s0 p m c cJ12_copyOf 2 s args RJ12 meth) (hr : meth.sig.returnType = (some (.array (.object "java/lang/Object")))) (hf : fJ12_copyOf T N Z S R x0 x1 = some (ro, To, No, Zo, So, Ro)) (V : Iv D dA s0 s T N Z I L R H locs) (hl : lv_has ls 2 [(0, .ref x0), (1, .int x1)]) (hB : cells + (Zo - Z) ≤ kc ∧ slots + (So - S) ≤ ks) : W p l e { frames := 2, cells := kc, slots := ks, locals := 83 } s m args below meth c H locs cells slots (MQ below (xQ D dA s0 (some (.ref ro)) To No Zo I L Ro) args s kc ks (fun q => s0 ≤ q)) (F0 m 0 ls []) := by
  have hx := X.1.1
  have hb := X.1.2.1
  unfold fJ12_copyOf at hf
  refine lv_aload_n (pc := 0) hx hb dJ12_copyOf_0 rfl (lv_at hl 0 rfl) ?_
  refine lv_iload_n (pc := 1) hx hb dJ12_copyOf_1 rfl (lv_at hl 1 rfl) ?_
  refine lv_aload_n (pc := 2) hx hb dJ12_copyOf_2 rfl (lv_at hl 0 rfl) ?_
  replace hf := tg_s hf; obtain ⟨ht1, hf⟩ := hf
  refine x_getC (pc := 3) X V ht1 q492 q2258 q2257 q493 q514 hl.1 (Nat.le_of_ble_eq_true rfl) (Nat.le_of_ble_eq_true rfl) dJ12_copyOf_3 ?_
  replace hf := b6s hf; obtain ⟨r2, T3, N4, Z5, S6, R7, hk_8, hf⟩ := hf
  have hm_hk_8 := zJ12_copyOf_2_nm3 hk_8
  have hm := zJ12_copyOf_b9 hf
  refine x_callS (pc := 6) (As := [.ref x0, .int x1, .ref (dA 250)]) (rest := []) X V (mJ12_copyOf_2_nm3 l D dA s0 (kc := Z5 - Z) (ks := S6 - S) (Nat.le_refl _) (Nat.le_refl _) hk_8) q515 q516 q149 q517 hsJ12_copyOf_2_nm3 ⟨Nat.le_of_ble_eq_true rfl, Nat.le_of_ble_eq_true rfl⟩ rfl hl.1 rfl (Nat.le_of_ble_eq_true rfl) dJ12_copyOf_6 ⟨by show _ ≤ kc; omega, by show _ ≤ ks; omega⟩ (fun H locs V => W.eq (g2 := F0 m 9 ls [.ref r2]) rfl ?_)
  exact wJ12_copyOf_b9 X hr hf V (lv_sub hl [] rfl) ⟨by omega, by omega⟩
theorem mJ12_copyOf (l : Launch) (D : va_G) (dA : Nat → ClassId) (s0 : Nat) {kc ks : Nat} {T : xT} {N : xT} {Z : Nat} {S : Nat} {I : xI} {L : xL} {R : xR} {x0 : Nat} {x1 : Int32} {ro : Nat} {To : xT} {No : xT} {Zo : Nat} {So : Nat} {Ro : xR} (hZ : Zo - Z ≤ kc) (hS : So - S ≤ ks) (hf : fJ12_copyOf T N Z S R x0 x1 = some (ro, To, No, Zo, So, Ro)) : XMet l D dA s0 yJ12_copyOf (ws_ yJ12_copyOf cJ12_copyOf 2 ((some (.array (.object "java/lang/Object"))))) (2) (83) [.ref x0, .int x1] T N Z I L R (some (.ref ro)) To No Zo I L Ro kc ks :=
  x_start (own := RJ12) rfl (by decide) (Nat.le_of_ble_eq_true rfl) (lv := [(0, .ref x0), (1, .int x1)]) rfl (fun p e s m below meth c ls X hr hini V hl => wJ12_copyOf_e X hr hf V hl ⟨by omega, by omega⟩)
set_option maxHeartbeats 400000 in
set_option maxRecDepth 100000 in
theorem zJ2_toArray_b11 {T : xT} {N : xT} {Z : Nat} {S : Nat} {I : xI} {R : xR}  {z0 : Nat} {ro : Nat} {To : xT} {No : xT} {Zo : Nat} {So : Nat} {Ro : xR}  (hf : fJ2_toArray_b11 T N Z S I R z0 = some (ro, To, No, Zo, So, Ro)) : Z ≤ Zo ∧ S ≤ So := by
  unfold fJ2_toArray_b11 at hf
  cases hf
  exact ⟨Nat.le_refl _, Nat.le_refl _⟩
set_option maxHeartbeats 400000 in
set_option maxRecDepth 100000 in
theorem wJ2_toArray_b11 {kc ks : Nat} {cells slots : Nat} {p : Program} {l : Launch} {e : Env} {s : State} {m : MethodId} {args : Array Value} {below : List Frame} {meth : Method} {c : Code} {D : va_G} {dA : Nat → ClassId} {s0 : Nat} {T : xT} {N : xT} {Z : Nat} {S : Nat} {I : xI} {L : xL} {R : xR} {H : Heap} {locs : List Loc} {ls : Array Slot}  {z0 : Nat} {ro : Nat} {To : xT} {No : xT} {Zo : Nat} {So : Nat} {Ro : xR} (X : Cx D dA s0 p m c cJ2_toArray 1 s args RJ2 meth) (hr : meth.sig.returnType = (some (.array (.object "java/lang/Object"))))   (hf : fJ2_toArray_b11 T N Z S I R z0 = some (ro, To, No, Zo, So, Ro)) (V : Iv D dA s0 s T N Z I L R H locs) (hl : lv_has ls 1 []) (hB : cells + (Zo - Z) ≤ kc ∧ slots + (So - S) ≤ ks) : W p l e { frames := 3, cells := kc, slots := ks, locals := 104 } s m args below meth c H locs cells slots (MQ below (xQ D dA s0 (some (.ref ro)) To No Zo I L Ro) args s kc ks (fun q => s0 ≤ q)) (F0 m 11 ls [.ref z0]) := by
  have hx := X.1.1
  have hb := X.1.2.1
  unfold fJ2_toArray_b11 at hf
  cases hf
  exact x_aretW (pc := 11) X V hr (by omega) (by omega) (Or.inr ⟨_, rfl⟩) dJ2_toArray_11
set_option maxHeartbeats 400000 in
set_option maxRecDepth 100000 in
theorem zJ2_toArray {T : xT} {N : xT} {Z : Nat} {S : Nat} {I : xI} {R : xR} {x0 : Nat} {ro : Nat} {To : xT} {No : xT} {Zo : Nat} {So : Nat} {Ro : xR} (hf : fJ2_toArray T N Z S I R x0 = some (ro, To, No, Zo, So, Ro)) : Z ≤ Zo ∧ S ≤ So := by
  unfold fJ2_toArray at hf
  replace hf := tg_s hf; obtain ⟨ht1, hf⟩ := hf
  replace hf := bs hf; obtain ⟨a2, ha2, hf⟩ := hf
  replace hf := b6s hf; obtain ⟨r3, T4, N5, Z6, S7, R8, hk_9, hf⟩ := hf
  have hm_hk_9 := zJ12_copyOf hk_9
  have hm := zJ2_toArray_b11 hf
  exact ⟨by omega, by omega⟩
set_option maxHeartbeats 400000 in
set_option maxRecDepth 100000 in
theorem wJ2_toArray_e {kc ks : Nat} {cells slots : Nat} {p : Program} {l : Launch} {e : Env} {s : State} {m : MethodId} {args : Array Value} {below : List Frame} {meth : Method} {c : Code} {D : va_G} {dA : Nat → ClassId} {s0 : Nat} {T : xT} {N : xT} {Z : Nat} {S : Nat} {I : xI} {L : xL} {R : xR} {H : Heap} {locs : List Loc} {ls : Array Slot} {x0 : Nat} {ro : Nat} {To : xT} {No : xT} {Zo : Nat} {So : Nat} {Ro : xR} (X : Cx D dA s0 p m c cJ2_toArray 1 s args RJ2 meth) (hr : meth.sig.returnType = (some (.array (.object "java/lang/Object")))) (hf : fJ2_toArray T N Z S I R x0 = some (ro, To, No, Zo, So, Ro)) (V : Iv D dA s0 s T N Z I L R H locs) (hl : lv_has ls 1 [(0, .ref x0)]) (hB : cells + (Zo - Z) ≤ kc ∧ slots + (So - S) ≤ ks) : W p l e { frames := 3, cells := kc, slots := ks, locals := 104 } s m args below meth c H locs cells slots (MQ below (xQ D dA s0 (some (.ref ro)) To No Zo I L Ro) args s kc ks (fun q => s0 ≤ q)) (F0 m 0 ls []) := by
  have hx := X.1.1
  have hb := X.1.2.1
  unfold fJ2_toArray at hf
  refine lv_aload_n (pc := 0) hx hb dJ2_toArray_0 rfl (lv_at hl 0 rfl) ?_
  replace hf := tg_s hf; obtain ⟨ht1, hf⟩ := hf
  replace hf := bs hf; obtain ⟨a2, ha2, hf⟩ := hf
  refine x_get (pc := 1) X V okJ2 ht1 1 (by decide) q209 (v := va_rf (R x0 1)) rfl dJ2_toArray_1 ?_
  refine x_topr ha2 ?_
  refine lv_aload_n (pc := 4) hx hb dJ2_toArray_4 rfl (lv_at hl 0 rfl) ?_
  refine x_get (pc := 5) X V okJ2 ht1 2 (by decide) q210 (v := .int (I x0 2)) rfl dJ2_toArray_5 ?_
  replace hf := b6s hf; obtain ⟨r3, T4, N5, Z6, S7, R8, hk_9, hf⟩ := hf
  have hm_hk_9 := zJ12_copyOf hk_9
  have hm := zJ2_toArray_b11 hf
  refine x_callS (pc := 8) (As := [.ref a2, .int (I x0 2)]) (rest := []) X V (mJ12_copyOf l D dA s0 (kc := Z6 - Z) (ks := S7 - S) (Nat.le_refl _) (Nat.le_refl _) hk_9) q489 q490 q149 q491 hsJ12_copyOf ⟨Nat.le_of_ble_eq_true rfl, Nat.le_of_ble_eq_true rfl⟩ rfl hl.1 rfl (Nat.le_of_ble_eq_true rfl) dJ2_toArray_8 ⟨by show _ ≤ kc; omega, by show _ ≤ ks; omega⟩ (fun H locs V => W.eq (g2 := F0 m 11 ls [.ref r3]) rfl ?_)
  exact wJ2_toArray_b11 X hr hf V (lv_sub hl [] rfl) ⟨by omega, by omega⟩
theorem mJ2_toArray (l : Launch) (D : va_G) (dA : Nat → ClassId) (s0 : Nat) {kc ks : Nat} {T : xT} {N : xT} {Z : Nat} {S : Nat} {I : xI} {L : xL} {R : xR} {x0 : Nat} {ro : Nat} {To : xT} {No : xT} {Zo : Nat} {So : Nat} {Ro : xR} (hZ : Zo - Z ≤ kc) (hS : So - S ≤ ks) (hf : fJ2_toArray T N Z S I R x0 = some (ro, To, No, Zo, So, Ro)) : XMet l D dA s0 yJ2_toArray (ws_ yJ2_toArray cJ2_toArray 1 ((some (.array (.object "java/lang/Object"))))) (3) (104) [.ref x0] T N Z I L R (some (.ref ro)) To No Zo I L Ro kc ks :=
  x_start (own := RJ2) rfl (by decide) (Nat.le_of_ble_eq_true rfl) (lv := [(0, .ref x0)]) rfl (fun p e s m below meth c ls X hr hini V hl => wJ2_toArray_e X hr hf V hl ⟨by omega, by omega⟩)
set_option maxHeartbeats 400000 in
set_option maxRecDepth 100000 in
theorem wJ11_hugeLength_e {p : Program} {l : Launch} {e : Env} {s : State} {m : MethodId} {args : Array Value} {below : List Frame} {meth : Method} {c : Code} {D : va_G} {dA : Nat → ClassId} {s0 : Nat} {T : xT} {N : xT} {Z : Nat} {I : xI} {L : xL} {R : xR} {H : Heap} {locs : List Loc} {ls : Array Slot} {x0 : Int32} {x1 : Int32} {ro : Int32} (X : Cx D dA s0 p m c cJ11_hugeLength 3 s args RJ11 meth) (hr : meth.sig.returnType = (some .int)) (hf : fJ11_hugeLength x0 x1 = some ro) (V : Iv D dA s0 s T N Z I L R H locs) (hl : lv_has ls 3 [(0, .int x0), (1, .int x1)]) : W p l e { frames := 0, cells := 0, slots := 0, locals := 0 } s m args below meth c H locs 0 0 (MQ below (xQ D dA s0 (some (.int ro)) T N Z I L R) args s 0 0 (fun q => s0 ≤ q)) (F0 m 0 ls []) := by
  have hx := X.1.1
  have hb := X.1.2.1
  unfold fJ11_hugeLength at hf
  refine lv_iload_n (pc := 0) hx hb dJ11_hugeLength_0 rfl (lv_at hl 0 rfl) ?_
  refine lv_iload_n (pc := 1) hx hb dJ11_hugeLength_1 rfl (lv_at hl 1 rfl) ?_
  refine lv_iadd (pc := 2) hx hb dJ11_hugeLength_2 ?_
  replace hf := nm_s hf; obtain ⟨u1, hu1, hf⟩ := hf
  refine x_topi hu1 ?_
  refine lv_istore_n (pc := 3) (lv' := [(2, .int u1), (0, .int x0), (1, .int x1)]) hx hb dJ11_hugeLength_3 rfl hl (by decide) rfl (fun ls hl => ?_)
  refine lv_iload_n (pc := 4) hx hb dJ11_hugeLength_4 rfl (lv_at hl 0 rfl) ?_
  refine lv_if_ge (pc := 5) (tgt := 49) hx hb dJ11_hugeLength_5 (by decide) (fun c2 => ?_) (fun c2 => ?_)
  · replace hf := if_t hf c2
    refine lv_iload_n (pc := 49) hx hb dJ11_hugeLength_49 rfl (lv_at hl 0 rfl) ?_
    refine lv_ldc (pc := 50) (v := (ii 2147483639)) hx hb X.1.2.2.2.1 (X.1.2.2.2.2 _ q536) dJ11_hugeLength_50 ?_
    refine lv_icmp_gt (pc := 52) (tgt := 58) hx hb dJ11_hugeLength_52 (by decide) (fun c3 => ?_) (fun c3 => ?_)
    · replace hf := if_t hf c3
      refine lv_iload_n (pc := 58) hx hb dJ11_hugeLength_58 rfl (lv_at hl 0 rfl) ?_
      cases hf
      exact x_iret (pc := 59) X V hr dJ11_hugeLength_59
    · replace hf := if_f hf c3
      refine lv_ldc (pc := 55) (v := (ii 2147483639)) hx hb X.1.2.2.2.1 (X.1.2.2.2.2 _ q536) dJ11_hugeLength_55 ?_
      cases hf
      exact x_iret (pc := 57) X V hr dJ11_hugeLength_57
  · replace hf := if_f hf c2
    cases hf
theorem mJ11_hugeLength (l : Launch) (D : va_G) (dA : Nat → ClassId) (s0 : Nat) {T : xT} {N : xT} {Z : Nat} {I : xI} {L : xL} {R : xR} {x0 : Int32} {x1 : Int32} {ro : Int32} (hf : fJ11_hugeLength x0 x1 = some ro) : XMet l D dA s0 yJ11_hugeLength (ws_ yJ11_hugeLength cJ11_hugeLength 3 ((some .int))) (0) (0) [.int x0, .int x1] T N Z I L R (some (.int ro)) T N Z I L R 0 0 :=
  x_start (own := RJ11) rfl (by decide) (Nat.le_of_ble_eq_true rfl) (lv := [(0, .int x0), (1, .int x1)]) rfl (fun p e s m below meth c ls X hr hini V hl => wJ11_hugeLength_e X hr hf V hl)
set_option maxHeartbeats 400000 in
set_option maxRecDepth 100000 in
theorem wJ11_newLength_e {p : Program} {l : Launch} {e : Env} {s : State} {m : MethodId} {args : Array Value} {below : List Frame} {meth : Method} {c : Code} {D : va_G} {dA : Nat → ClassId} {s0 : Nat} {T : xT} {N : xT} {Z : Nat} {I : xI} {L : xL} {R : xR} {H : Heap} {locs : List Loc} {ls : Array Slot} {x0 : Int32} {x1 : Int32} {x2 : Int32} {ro : Int32} (X : Cx D dA s0 p m c cJ11_newLength 4 s args RJ11 meth) (hr : meth.sig.returnType = (some .int)) (hf : fJ11_newLength x0 x1 x2 = some ro) (V : Iv D dA s0 s T N Z I L R H locs) (hl : lv_has ls 4 [(0, .int x0), (1, .int x1), (2, .int x2)]) : W p l e { frames := 1, cells := 0, slots := 0, locals := 23 } s m args below meth c H locs 0 0 (MQ below (xQ D dA s0 (some (.int ro)) T N Z I L R) args s 0 0 (fun q => s0 ≤ q)) (F0 m 0 ls []) := by
  have hx := X.1.1
  have hb := X.1.2.1
  unfold fJ11_newLength at hf
  refine lv_iload_n (pc := 0) hx hb dJ11_newLength_0 rfl (lv_at hl 0 rfl) ?_
  refine lv_iload_n (pc := 1) hx hb dJ11_newLength_1 rfl (lv_at hl 1 rfl) ?_
  refine lv_iload_n (pc := 2) hx hb dJ11_newLength_2 rfl (lv_at hl 2 rfl) ?_
  refine va_mmax (pc := 3) hx hb (X.1.2.2.1.trans hl.1.symm) X.1.2.2.2.1 (X.1.2.2.2.2 _ q533) (X.1.2.2.2.2 _ q534) (X.1.2.2.2.2 _ q132) (X.1.2.2.2.2 _ q535) (Nat.le_of_ble_eq_true rfl) (Nat.le_of_ble_eq_true rfl) (Nat.zero_le _) (Nat.zero_le _) dJ11_newLength_3 ?_
  refine lv_iadd (pc := 6) hx hb dJ11_newLength_6 ?_
  replace hf := nm_s hf; obtain ⟨u1, hu1, hf⟩ := hf
  refine x_topi hu1 ?_
  refine lv_istore_n (pc := 7) (lv' := [(3, .int u1), (0, .int x0), (1, .int x1), (2, .int x2)]) hx hb dJ11_newLength_7 rfl hl (by decide) rfl (fun ls hl => ?_)
  refine lv_iconst (pc := 8) (v := (ii 0)) hx hb dJ11_newLength_8 (by decide) ?_
  refine lv_iload_n (pc := 9) hx hb dJ11_newLength_9 rfl (lv_at hl 0 rfl) ?_
  refine lv_icmp_ge (pc := 10) (tgt := 21) hx hb dJ11_newLength_10 (by decide) (fun c2 => ?_) (fun c2 => ?_)
  · replace hf := if_t hf c2
    refine lv_iload_n (pc := 21) hx hb dJ11_newLength_21 rfl (lv_at hl 1 rfl) ?_
    refine lv_iload_n (pc := 22) hx hb dJ11_newLength_22 rfl (lv_at hl 2 rfl) ?_
    replace hf := bs hf; obtain ⟨r3, hk_4, hf⟩ := hf
    refine x_callS0 (pc := 23) (As := [.int x0, .int x1]) (rest := []) X V (mJ11_hugeLength l D dA s0 hk_4) q537 q538 q148 q539 hsJ11_hugeLength ⟨Nat.le_of_ble_eq_true rfl, Nat.le_of_ble_eq_true rfl⟩ rfl hl.1 rfl (Nat.le_of_ble_eq_true rfl) dJ11_newLength_23 ⟨Nat.zero_le _, Nat.zero_le _⟩ (fun H locs V => W.eq (g2 := F0 m 26 ls [.int r3]) rfl ?_)
    cases hf
    exact x_iret (pc := 26) X V hr dJ11_newLength_26
  · replace hf := if_f hf c2
    refine lv_iload_n (pc := 13) hx hb dJ11_newLength_13 rfl (lv_at hl 0 rfl) ?_
    refine lv_ldc (pc := 14) (v := (ii 2147483639)) hx hb X.1.2.2.2.1 (X.1.2.2.2.2 _ q536) dJ11_newLength_14 ?_
    refine lv_icmp_gt (pc := 16) (tgt := 21) hx hb dJ11_newLength_16 (by decide) (fun c5 => ?_) (fun c5 => ?_)
    · replace hf := if_t hf c5
      refine lv_iload_n (pc := 21) hx hb dJ11_newLength_21 rfl (lv_at hl 1 rfl) ?_
      refine lv_iload_n (pc := 22) hx hb dJ11_newLength_22 rfl (lv_at hl 2 rfl) ?_
      replace hf := bs hf; obtain ⟨r6, hk_7, hf⟩ := hf
      refine x_callS0 (pc := 23) (As := [.int x0, .int x1]) (rest := []) X V (mJ11_hugeLength l D dA s0 hk_7) q537 q538 q148 q539 hsJ11_hugeLength ⟨Nat.le_of_ble_eq_true rfl, Nat.le_of_ble_eq_true rfl⟩ rfl hl.1 rfl (Nat.le_of_ble_eq_true rfl) dJ11_newLength_23 ⟨Nat.zero_le _, Nat.zero_le _⟩ (fun H locs V => W.eq (g2 := F0 m 26 ls [.int r6]) rfl ?_)
      cases hf
      exact x_iret (pc := 26) X V hr dJ11_newLength_26
    · replace hf := if_f hf c5
      refine lv_iload_n (pc := 19) hx hb dJ11_newLength_19 rfl (lv_at hl 0 rfl) ?_
      cases hf
      exact x_iret (pc := 20) X V hr dJ11_newLength_20
theorem mJ11_newLength (l : Launch) (D : va_G) (dA : Nat → ClassId) (s0 : Nat) {T : xT} {N : xT} {Z : Nat} {I : xI} {L : xL} {R : xR} {x0 : Int32} {x1 : Int32} {x2 : Int32} {ro : Int32} (hf : fJ11_newLength x0 x1 x2 = some ro) : XMet l D dA s0 yJ11_newLength (ws_ yJ11_newLength cJ11_newLength 4 ((some .int))) (1) (23) [.int x0, .int x1, .int x2] T N Z I L R (some (.int ro)) T N Z I L R 0 0 :=
  x_start (own := RJ11) rfl (by decide) (Nat.le_of_ble_eq_true rfl) (lv := [(0, .int x0), (1, .int x1), (2, .int x2)]) rfl (fun p e s m below meth c ls X hr hini V hl => wJ11_newLength_e X hr hf V hl)
set_option maxHeartbeats 400000 in
set_option maxRecDepth 100000 in
theorem zJ2_grow_b40 {T : xT} {N : xT} {Z : Nat} {S : Nat} {R : xR}  {z0 : Nat} {z1 : Nat} {ro : Nat} {To : xT} {No : xT} {Zo : Nat} {So : Nat} {Ro : xR}  (hf : fJ2_grow_b40 T N Z S R z0 z1 = some (ro, To, No, Zo, So, Ro)) : Z ≤ Zo ∧ S ≤ So := by
  unfold fJ2_grow_b40 at hf
  replace hf := tg_s hf; obtain ⟨ht1, hf⟩ := hf
  replace hf := nm_s hf; obtain ⟨R2, hR2, hf⟩ := hf
  cases hf
  exact ⟨Nat.le_refl _, Nat.le_refl _⟩
set_option maxHeartbeats 400000 in
set_option maxRecDepth 100000 in
theorem wJ2_grow_b40 {kc ks : Nat} {cells slots : Nat} {p : Program} {l : Launch} {e : Env} {s : State} {m : MethodId} {args : Array Value} {below : List Frame} {meth : Method} {c : Code} {D : va_G} {dA : Nat → ClassId} {s0 : Nat} {T : xT} {N : xT} {Z : Nat} {S : Nat} {I : xI} {L : xL} {R : xR} {H : Heap} {locs : List Loc} {ls : Array Slot}  {z0 : Nat} {z1 : Nat} {ro : Nat} {To : xT} {No : xT} {Zo : Nat} {So : Nat} {Ro : xR} (X : Cx D dA s0 p m c cJ2_grow 4 s args RJ2 meth) (hr : meth.sig.returnType = (some (.array (.object "java/lang/Object"))))   (hf : fJ2_grow_b40 T N Z S R z0 z1 = some (ro, To, No, Zo, So, Ro)) (V : Iv D dA s0 s T N Z I L R H locs) (hl : lv_has ls 4 []) (hB : cells + (Zo - Z) ≤ kc ∧ slots + (So - S) ≤ ks) : W p l e { frames := 3, cells := kc, slots := ks, locals := 104 } s m args below meth c H locs cells slots (MQ below (xQ D dA s0 (some (.ref ro)) To No Zo I L Ro) args s kc ks (fun q => s0 ≤ q)) (F0 m 40 ls [.ref z1, .ref z0]) := by
  have hx := X.1.1
  have hb := X.1.2.1
  unfold fJ2_grow_b40 at hf
  refine lv_dup_x1 (pc := 40) hx hb dJ2_grow_40 rfl rfl ?_
  replace hf := tg_s hf; obtain ⟨ht1, hf⟩ := hf
  replace hf := nm_s hf; obtain ⟨R2, hR2, hf⟩ := hf
  refine x_putr (pc := 41) X V okJ2 (by decide) ht1 1 (by decide) q209 (Or.inl rfl) hR2 (fun _ _ _ => rfl) (v := .ref z1) rfl rfl rfl dJ2_grow_41 (fun H locs V => ?_)
  cases hf
  exact x_aretW (pc := 44) X V hr (by omega) (by omega) (Or.inr ⟨_, rfl⟩) dJ2_grow_44
set_option maxHeartbeats 400000 in
set_option maxRecDepth 100000 in
theorem zJ2_grow {T : xT} {N : xT} {Z : Nat} {S : Nat} {R : xR} {x0 : Nat} {x1 : Int32} {ro : Nat} {To : xT} {No : xT} {Zo : Nat} {So : Nat} {Ro : xR} (hf : fJ2_grow T N Z S R x0 x1 = some (ro, To, No, Zo, So, Ro)) : Z ≤ Zo ∧ S ≤ So := by
  unfold fJ2_grow at hf
  replace hf := tg_s hf; obtain ⟨ht1, hf⟩ := hf
  replace hf := bs hf; obtain ⟨a2, ha2, hf⟩ := hf
  replace hf := tg_s hf; obtain ⟨ht3, hf⟩ := hf
  replace hf := nm_s hf; obtain ⟨u4, hu4, hf⟩ := hf
  rcases (Decidable.em ((ii 0) < u4)) with c5 | c5
  · replace hf := if_t hf c5
    replace hf := bs hf; obtain ⟨r6, hk_7, hf⟩ := hf
    replace hf := b6s hf; obtain ⟨r8, T9, N10, Z11, S12, R13, hk_14, hf⟩ := hf
    have hm_hk_14 := zJ12_copyOf hk_14
    have hm := zJ2_grow_b40 hf
    exact ⟨by omega, by omega⟩
  · replace hf := if_f hf c5
    cases hf
set_option maxHeartbeats 400000 in
set_option maxRecDepth 100000 in
theorem wJ2_grow_e {kc ks : Nat} {cells slots : Nat} {p : Program} {l : Launch} {e : Env} {s : State} {m : MethodId} {args : Array Value} {below : List Frame} {meth : Method} {c : Code} {D : va_G} {dA : Nat → ClassId} {s0 : Nat} {T : xT} {N : xT} {Z : Nat} {S : Nat} {I : xI} {L : xL} {R : xR} {H : Heap} {locs : List Loc} {ls : Array Slot} {x0 : Nat} {x1 : Int32} {ro : Nat} {To : xT} {No : xT} {Zo : Nat} {So : Nat} {Ro : xR} (X : Cx D dA s0 p m c cJ2_grow 4 s args RJ2 meth) (hr : meth.sig.returnType = (some (.array (.object "java/lang/Object")))) (hf : fJ2_grow T N Z S R x0 x1 = some (ro, To, No, Zo, So, Ro)) (V : Iv D dA s0 s T N Z I L R H locs) (hl : lv_has ls 4 [(0, .ref x0), (1, .int x1)]) (hB : cells + (Zo - Z) ≤ kc ∧ slots + (So - S) ≤ ks) : W p l e { frames := 3, cells := kc, slots := ks, locals := 104 } s m args below meth c H locs cells slots (MQ below (xQ D dA s0 (some (.ref ro)) To No Zo I L Ro) args s kc ks (fun q => s0 ≤ q)) (F0 m 0 ls []) := by
  have hx := X.1.1
  have hb := X.1.2.1
  unfold fJ2_grow at hf
  refine lv_aload_n (pc := 0) hx hb dJ2_grow_0 rfl (lv_at hl 0 rfl) ?_
  replace hf := tg_s hf; obtain ⟨ht1, hf⟩ := hf
  replace hf := bs hf; obtain ⟨a2, ha2, hf⟩ := hf
  refine x_get (pc := 1) X V okJ2 ht1 1 (by decide) q209 (v := va_rf (R x0 1)) rfl dJ2_grow_1 ?_
  refine x_topr ha2 ?_
  replace hf := tg_s hf; obtain ⟨ht3, hf⟩ := hf
  refine x_alen (pc := 4) X V (k := 4) ht3 (by decide) dJ2_grow_4 ?_
  replace hf := nm_s hf; obtain ⟨u4, hu4, hf⟩ := hf
  refine x_topi hu4 ?_
  refine lv_istore_n (pc := 5) (lv' := [(2, .int u4), (0, .ref x0), (1, .int x1)]) hx hb dJ2_grow_5 rfl hl (by decide) rfl (fun ls hl => ?_)
  refine lv_iload_n (pc := 6) hx hb dJ2_grow_6 rfl (lv_at hl 0 rfl) ?_
  refine lv_if_gt (pc := 7) (tgt := 20) hx hb dJ2_grow_7 (by decide) (fun c5 => ?_) (fun c5 => ?_)
  · replace hf := if_t hf c5
    refine lv_iload_n (pc := 20) hx hb dJ2_grow_20 rfl (lv_at hl 0 rfl) ?_
    refine lv_iload_n (pc := 21) hx hb dJ2_grow_21 rfl (lv_at hl 2 rfl) ?_
    refine lv_iload_n (pc := 22) hx hb dJ2_grow_22 rfl (lv_at hl 0 rfl) ?_
    refine lv_isub (pc := 23) hx hb dJ2_grow_23 ?_
    refine lv_iload_n (pc := 24) hx hb dJ2_grow_24 rfl (lv_at hl 0 rfl) ?_
    refine lv_iconst (pc := 25) (v := (ii 1)) hx hb dJ2_grow_25 (by decide) ?_
    refine lv_ishr (pc := 26) hx hb dJ2_grow_26 ?_
    replace hf := bs hf; obtain ⟨r6, hk_7, hf⟩ := hf
    refine x_callS0 (pc := 27) (As := [.int u4, .int (x1 - u4), .int (u4 >>> ((ii 1) &&& ii 31))]) (rest := []) X V (mJ11_newLength l D dA s0 hk_7) q530 q531 q148 q532 hsJ11_newLength ⟨Nat.le_of_ble_eq_true rfl, Nat.le_of_ble_eq_true rfl⟩ rfl hl.1 rfl (Nat.le_of_ble_eq_true rfl) dJ2_grow_27 ⟨by show cells ≤ kc; omega, by show slots ≤ ks; omega⟩ (fun H locs V => W.eq (g2 := F0 m 30 ls [.int r6]) rfl ?_)
    refine lv_istore_n (pc := 30) (lv' := [(3, .int r6), (2, .int u4), (0, .ref x0), (1, .int x1)]) hx hb dJ2_grow_30 rfl hl (by decide) rfl (fun ls hl => ?_)
    refine lv_aload_n (pc := 31) hx hb dJ2_grow_31 rfl (lv_at hl 2 rfl) ?_
    refine lv_aload_n (pc := 32) hx hb dJ2_grow_32 rfl (lv_at hl 2 rfl) ?_
    refine x_get (pc := 33) X V okJ2 ht1 1 (by decide) q209 (v := va_rf (R x0 1)) rfl dJ2_grow_33 ?_
    refine x_topr ha2 ?_
    refine lv_iload_n (pc := 36) hx hb dJ2_grow_36 rfl (lv_at hl 0 rfl) ?_
    replace hf := b6s hf; obtain ⟨r8, T9, N10, Z11, S12, R13, hk_14, hf⟩ := hf
    have hm_hk_14 := zJ12_copyOf hk_14
    have hm := zJ2_grow_b40 hf
    refine x_callS (pc := 37) (As := [.ref a2, .int r6]) (rest := [.ref x0]) X V (mJ12_copyOf l D dA s0 (kc := Z11 - Z) (ks := S12 - S) (Nat.le_refl _) (Nat.le_refl _) hk_14) q489 q490 q149 q491 hsJ12_copyOf ⟨Nat.le_of_ble_eq_true rfl, Nat.le_of_ble_eq_true rfl⟩ rfl hl.1 rfl (Nat.le_of_ble_eq_true rfl) dJ2_grow_37 ⟨by show _ ≤ kc; omega, by show _ ≤ ks; omega⟩ (fun H locs V => W.eq (g2 := F0 m 40 ls [.ref r8, .ref x0]) rfl ?_)
    exact wJ2_grow_b40 X hr hf V (lv_sub hl [] rfl) ⟨by omega, by omega⟩
  · replace hf := if_f hf c5
    refine lv_aload_n (pc := 10) hx hb dJ2_grow_10 rfl (lv_at hl 1 rfl) ?_
    refine x_get (pc := 11) X V okJ2 ht1 1 (by decide) q209 (v := va_rf (R x0 1)) rfl dJ2_grow_11 ?_
    refine x_topr ha2 ?_
    cases hf
theorem mJ2_grow (l : Launch) (D : va_G) (dA : Nat → ClassId) (s0 : Nat) {kc ks : Nat} {T : xT} {N : xT} {Z : Nat} {S : Nat} {I : xI} {L : xL} {R : xR} {x0 : Nat} {x1 : Int32} {ro : Nat} {To : xT} {No : xT} {Zo : Nat} {So : Nat} {Ro : xR} (hZ : Zo - Z ≤ kc) (hS : So - S ≤ ks) (hf : fJ2_grow T N Z S R x0 x1 = some (ro, To, No, Zo, So, Ro)) : XMet l D dA s0 yJ2_grow (ws_ yJ2_grow cJ2_grow 4 ((some (.array (.object "java/lang/Object"))))) (3) (104) [.ref x0, .int x1] T N Z I L R (some (.ref ro)) To No Zo I L Ro kc ks :=
  x_start (own := RJ2) rfl (by decide) (Nat.le_of_ble_eq_true rfl) (lv := [(0, .ref x0), (1, .int x1)]) rfl (fun p e s m below meth c ls X hr hini V hl => wJ2_grow_e X hr hf V hl ⟨by omega, by omega⟩)
set_option maxHeartbeats 400000 in
set_option maxRecDepth 100000 in
theorem zJ2_addAll_b56 {T : xT} {N : xT} {Z : Nat} {S : Nat} {I : xI} {R : xR}  {x0 : Nat} {x2 : Nat} {x3 : Int32} {x4 : Nat} {x5 : Int32} {ro : Int32} {To : xT} {No : xT} {Zo : Nat} {So : Nat} {Io : xI} {Ro : xR}  (hf : fJ2_addAll_b56 T N Z S I R x0 x2 x3 x4 x5 = some (ro, To, No, Zo, So, Io, Ro)) : Z ≤ Zo ∧ S ≤ So := by
  unfold fJ2_addAll_b56 at hf
  replace hf := tg_s hf; obtain ⟨ht1, hf⟩ := hf
  replace hf := tg_s hf; obtain ⟨ht2, hf⟩ := hf
  replace hf := chk_s hf; obtain ⟨hq3, hf⟩ := hf
  replace hf := chk_s hf; obtain ⟨hq4, hf⟩ := hf
  replace hf := nm_s hf; obtain ⟨R5, hR5, hf⟩ := hf
  replace hf := tg_s hf; obtain ⟨ht6, hf⟩ := hf
  replace hf := nm_s hf; obtain ⟨I7, hI7, hf⟩ := hf
  cases hf
  exact ⟨Nat.le_refl _, Nat.le_refl _⟩
set_option maxHeartbeats 400000 in
set_option maxRecDepth 100000 in
theorem wJ2_addAll_b56 {kc ks : Nat} {cells slots : Nat} {p : Program} {l : Launch} {e : Env} {s : State} {m : MethodId} {args : Array Value} {below : List Frame} {meth : Method} {c : Code} {D : va_G} {dA : Nat → ClassId} {s0 : Nat} {T : xT} {N : xT} {Z : Nat} {S : Nat} {I : xI} {L : xL} {R : xR} {H : Heap} {locs : List Loc} {ls : Array Slot}  {x0 : Nat} {x2 : Nat} {x3 : Int32} {x4 : Nat} {x5 : Int32} {ro : Int32} {To : xT} {No : xT} {Zo : Nat} {So : Nat} {Io : xI} {Ro : xR} (X : Cx D dA s0 p m c cJ2_addAll 6 s args RJ2 meth) (hr : meth.sig.returnType = (some .boolean))   (hf : fJ2_addAll_b56 T N Z S I R x0 x2 x3 x4 x5 = some (ro, To, No, Zo, So, Io, Ro)) (V : Iv D dA s0 s T N Z I L R H locs) (hl : lv_has ls 6 [(0, .ref x0), (2, .ref x2), (3, .int x3), (4, .ref x4), (5, .int x5)]) (hB : cells + (Zo - Z) ≤ kc ∧ slots + (So - S) ≤ ks) : W p l e { frames := 4, cells := kc, slots := ks, locals := 127 } s m args below meth c H locs cells slots (MQ below (xQ D dA s0 (some (.int ro)) To No Zo Io L Ro) args s kc ks (fun q => s0 ≤ q)) (F0 m 56 ls []) := by
  have hx := X.1.1
  have hb := X.1.2.1
  unfold fJ2_addAll_b56 at hf
  refine lv_aload_n (pc := 56) hx hb dJ2_addAll_56 rfl (lv_at hl 1 rfl) ?_
  refine lv_iconst (pc := 57) (v := (ii 0)) hx hb dJ2_addAll_57 (by decide) ?_
  refine lv_aload (pc := 58) hx hb dJ2_addAll_58 (lv_at hl 3 rfl) ?_
  refine lv_iload (pc := 60) hx hb dJ2_addAll_60 (lv_at hl 4 rfl) ?_
  refine lv_iload_n (pc := 62) hx hb dJ2_addAll_62 rfl (lv_at hl 2 rfl) ?_
  replace hf := tg_s hf; obtain ⟨ht1, hf⟩ := hf
  replace hf := tg_s hf; obtain ⟨ht2, hf⟩ := hf
  replace hf := chk_s hf; obtain ⟨hq3, hf⟩ := hf
  replace hf := chk_s hf; obtain ⟨hq4, hf⟩ := hf
  replace hf := nm_s hf; obtain ⟨R5, hR5, hf⟩ := hf
  refine x_copyq (pc := 63) X V q541 q469 q468 q150 ht1 ht2 hq3 hq4 hR5 hl.1 (Nat.le_of_ble_eq_true rfl) (Nat.le_of_ble_eq_true rfl) dJ2_addAll_63 (fun H locs V => ?_)
  refine lv_aload_n (pc := 66) hx hb dJ2_addAll_66 rfl (lv_at hl 0 rfl) ?_
  refine lv_iload (pc := 67) hx hb dJ2_addAll_67 (lv_at hl 4 rfl) ?_
  refine lv_iload_n (pc := 69) hx hb dJ2_addAll_69 rfl (lv_at hl 2 rfl) ?_
  refine lv_iadd (pc := 70) hx hb dJ2_addAll_70 ?_
  replace hf := tg_s hf; obtain ⟨ht6, hf⟩ := hf
  replace hf := nm_s hf; obtain ⟨I7, hI7, hf⟩ := hf
  refine x_puti (pc := 71) X V okJ2 (by decide) ht6 2 (by decide) q210 (Or.inl rfl) hI7 (fun _ _ _ => rfl) rfl rfl dJ2_addAll_71 (fun H locs V => ?_)
  refine lv_iconst (pc := 74) (v := (ii 1)) hx hb dJ2_addAll_74 (by decide) ?_
  cases hf
  exact x_zretW (pc := 75) X V hr (by omega) (by omega) (by decide) dJ2_addAll_75
set_option maxHeartbeats 400000 in
set_option maxRecDepth 100000 in
theorem zJ2_addAll_b54 {T : xT} {N : xT} {Z : Nat} {S : Nat} {I : xI} {R : xR}  {x0 : Nat} {x2 : Nat} {x3 : Int32} {x5 : Int32} {z0 : Nat} {ro : Int32} {To : xT} {No : xT} {Zo : Nat} {So : Nat} {Io : xI} {Ro : xR}  (hf : fJ2_addAll_b54 T N Z S I R x0 x2 x3 x5 z0 = some (ro, To, No, Zo, So, Io, Ro)) : Z ≤ Zo ∧ S ≤ So := by
  unfold fJ2_addAll_b54 at hf
  have hm := zJ2_addAll_b56 hf
  exact ⟨by omega, by omega⟩
set_option maxHeartbeats 400000 in
set_option maxRecDepth 100000 in
theorem wJ2_addAll_b54 {kc ks : Nat} {cells slots : Nat} {p : Program} {l : Launch} {e : Env} {s : State} {m : MethodId} {args : Array Value} {below : List Frame} {meth : Method} {c : Code} {D : va_G} {dA : Nat → ClassId} {s0 : Nat} {T : xT} {N : xT} {Z : Nat} {S : Nat} {I : xI} {L : xL} {R : xR} {H : Heap} {locs : List Loc} {ls : Array Slot}  {x0 : Nat} {x2 : Nat} {x3 : Int32} {x5 : Int32} {z0 : Nat} {ro : Int32} {To : xT} {No : xT} {Zo : Nat} {So : Nat} {Io : xI} {Ro : xR} (X : Cx D dA s0 p m c cJ2_addAll 6 s args RJ2 meth) (hr : meth.sig.returnType = (some .boolean))   (hf : fJ2_addAll_b54 T N Z S I R x0 x2 x3 x5 z0 = some (ro, To, No, Zo, So, Io, Ro)) (V : Iv D dA s0 s T N Z I L R H locs) (hl : lv_has ls 6 [(0, .ref x0), (2, .ref x2), (3, .int x3), (5, .int x5)]) (hB : cells + (Zo - Z) ≤ kc ∧ slots + (So - S) ≤ ks) : W p l e { frames := 4, cells := kc, slots := ks, locals := 127 } s m args below meth c H locs cells slots (MQ below (xQ D dA s0 (some (.int ro)) To No Zo Io L Ro) args s kc ks (fun q => s0 ≤ q)) (F0 m 54 ls [.ref z0]) := by
  have hx := X.1.1
  have hb := X.1.2.1
  unfold fJ2_addAll_b54 at hf
  refine lv_astore (pc := 54) (lv' := [(4, .ref z0), (0, .ref x0), (2, .ref x2), (3, .int x3), (5, .int x5)]) hx hb dJ2_addAll_54 hl (by decide) rfl (fun ls hl => ?_)
  exact wJ2_addAll_b56 X hr hf V (lv_sub hl [1, 2, 3, 0, 4] rfl) ⟨by omega, by omega⟩
set_option maxHeartbeats 400000 in
set_option maxRecDepth 100000 in
theorem zJ2_addAll_b6 {T : xT} {N : xT} {Z : Nat} {S : Nat} {I : xI} {R : xR}  {x0 : Nat} {z0 : Nat} {ro : Int32} {To : xT} {No : xT} {Zo : Nat} {So : Nat} {Io : xI} {Ro : xR}  (hf : fJ2_addAll_b6 T N Z S I R x0 z0 = some (ro, To, No, Zo, So, Io, Ro)) : Z ≤ Zo ∧ S ≤ So := by
  unfold fJ2_addAll_b6 at hf
  replace hf := tg_s hf; obtain ⟨ht1, hf⟩ := hf
  replace hf := nm_s hf; obtain ⟨I2, hI2, hf⟩ := hf
  replace hf := tg_s hf; obtain ⟨ht3, hf⟩ := hf
  replace hf := nm_s hf; obtain ⟨u4, hu4, hf⟩ := hf
  rcases (Decidable.em (u4 = (ii 0))).symm with c5 | c5
  · replace hf := if_f hf c5
    replace hf := bs hf; obtain ⟨a6, ha6, hf⟩ := hf
    replace hf := tg_s hf; obtain ⟨ht7, hf⟩ := hf
    replace hf := nm_s hf; obtain ⟨u8, hu8, hf⟩ := hf
    rcases (Decidable.em (u4 ≤ ((Int32.ofNat (N a6)) - (I2 x0 2)))) with c9 | c9
    · replace hf := if_t hf c9
      have hm := zJ2_addAll_b56 hf
      exact ⟨by omega, by omega⟩
    · replace hf := if_f hf c9
      replace hf := b6s hf; obtain ⟨r10, T11, N12, Z13, S14, R15, hk_16, hf⟩ := hf
      have hm_hk_16 := zJ2_grow hk_16
      have hm := zJ2_addAll_b54 hf
      exact ⟨by omega, by omega⟩
  · replace hf := if_t hf c5
    cases hf
    exact ⟨Nat.le_refl _, Nat.le_refl _⟩
set_option maxHeartbeats 400000 in
set_option maxRecDepth 100000 in
theorem wJ2_addAll_b6 {kc ks : Nat} {cells slots : Nat} {p : Program} {l : Launch} {e : Env} {s : State} {m : MethodId} {args : Array Value} {below : List Frame} {meth : Method} {c : Code} {D : va_G} {dA : Nat → ClassId} {s0 : Nat} {T : xT} {N : xT} {Z : Nat} {S : Nat} {I : xI} {L : xL} {R : xR} {H : Heap} {locs : List Loc} {ls : Array Slot}  {x0 : Nat} {z0 : Nat} {ro : Int32} {To : xT} {No : xT} {Zo : Nat} {So : Nat} {Io : xI} {Ro : xR} (X : Cx D dA s0 p m c cJ2_addAll 6 s args RJ2 meth) (hr : meth.sig.returnType = (some .boolean))   (hf : fJ2_addAll_b6 T N Z S I R x0 z0 = some (ro, To, No, Zo, So, Io, Ro)) (V : Iv D dA s0 s T N Z I L R H locs) (hl : lv_has ls 6 [(0, .ref x0)]) (hB : cells + (Zo - Z) ≤ kc ∧ slots + (So - S) ≤ ks) : W p l e { frames := 4, cells := kc, slots := ks, locals := 127 } s m args below meth c H locs cells slots (MQ below (xQ D dA s0 (some (.int ro)) To No Zo Io L Ro) args s kc ks (fun q => s0 ≤ q)) (F0 m 6 ls [.ref z0]) := by
  have hx := X.1.1
  have hb := X.1.2.1
  unfold fJ2_addAll_b6 at hf
  refine lv_astore_n (pc := 6) (lv' := [(2, .ref z0), (0, .ref x0)]) hx hb dJ2_addAll_6 rfl hl (by decide) rfl (fun ls hl => ?_)
  refine lv_aload_n (pc := 7) hx hb dJ2_addAll_7 rfl (lv_at hl 1 rfl) ?_
  refine lv_dup (pc := 8) hx hb dJ2_addAll_8 rfl ?_
  replace hf := tg_s hf; obtain ⟨ht1, hf⟩ := hf
  refine x_getI (pc := 9) X V okJ2 ht1 0 (by decide) q212 q213 (w := .int (I x0 0)) rfl dJ2_addAll_9 ?_
  refine lv_iconst (pc := 12) (v := (ii 1)) hx hb dJ2_addAll_12 (by decide) ?_
  refine lv_iadd (pc := 13) hx hb dJ2_addAll_13 ?_
  replace hf := nm_s hf; obtain ⟨I2, hI2, hf⟩ := hf
  refine x_putiI (pc := 14) X V okJ2 ht1 0 (by decide) q212 q213 rfl hI2 (fun _ _ _ => rfl) rfl rfl dJ2_addAll_14 (fun H locs V => ?_)
  refine lv_aload_n (pc := 17) hx hb dJ2_addAll_17 rfl (lv_at hl 0 rfl) ?_
  replace hf := tg_s hf; obtain ⟨ht3, hf⟩ := hf
  refine x_alen (pc := 18) X V (k := 4) ht3 (by decide) dJ2_addAll_18 ?_
  replace hf := nm_s hf; obtain ⟨u4, hu4, hf⟩ := hf
  refine x_topi hu4 ?_
  refine lv_istore_n (pc := 19) (lv' := [(3, .int u4), (2, .ref z0), (0, .ref x0)]) hx hb dJ2_addAll_19 rfl hl (by decide) rfl (fun ls hl => ?_)
  refine lv_iload_n (pc := 20) hx hb dJ2_addAll_20 rfl (lv_at hl 0 rfl) ?_
  refine lv_if_ne (pc := 21) (tgt := 26) hx hb dJ2_addAll_21 (by decide) (fun c5 => ?_) (fun c5 => ?_)
  · replace hf := if_f hf c5
    refine lv_iload_n (pc := 26) hx hb dJ2_addAll_26 rfl (lv_at hl 0 rfl) ?_
    refine lv_aload_n (pc := 27) hx hb dJ2_addAll_27 rfl (lv_at hl 2 rfl) ?_
    replace hf := bs hf; obtain ⟨a6, ha6, hf⟩ := hf
    refine x_get (pc := 28) X V okJ2 ht1 1 (by decide) q209 (v := va_rf (R x0 1)) rfl dJ2_addAll_28 ?_
    refine x_topr ha6 ?_
    refine lv_dup (pc := 31) hx hb dJ2_addAll_31 rfl ?_
    refine lv_astore (pc := 32) (lv' := [(4, .ref a6), (3, .int u4), (2, .ref z0), (0, .ref x0)]) hx hb dJ2_addAll_32 hl (by decide) rfl (fun ls hl => ?_)
    replace hf := tg_s hf; obtain ⟨ht7, hf⟩ := hf
    refine x_alen (pc := 34) X V (k := 4) ht7 (by decide) dJ2_addAll_34 ?_
    refine lv_aload_n (pc := 35) hx hb dJ2_addAll_35 rfl (lv_at hl 3 rfl) ?_
    refine x_get (pc := 36) X V okJ2 ht1 2 (by decide) q210 (v := .int (I2 x0 2)) rfl dJ2_addAll_36 ?_
    refine lv_dup (pc := 39) hx hb dJ2_addAll_39 rfl ?_
    replace hf := nm_s hf; obtain ⟨u8, hu8, hf⟩ := hf
    refine x_topi hu8 ?_
    refine lv_istore (pc := 40) (lv' := [(5, .int u8), (4, .ref a6), (3, .int u4), (2, .ref z0), (0, .ref x0)]) hx hb dJ2_addAll_40 hl (by decide) rfl (fun ls hl => ?_)
    refine lv_isub (pc := 42) hx hb dJ2_addAll_42 ?_
    refine lv_icmp_le (pc := 43) (tgt := 56) hx hb dJ2_addAll_43 (by decide) (fun c9 => ?_) (fun c9 => ?_)
    · replace hf := if_t hf c9
      exact wJ2_addAll_b56 X hr hf V (lv_sub hl [4, 3, 2, 1, 0] rfl) ⟨by omega, by omega⟩
    · replace hf := if_f hf c9
      refine lv_aload_n (pc := 46) hx hb dJ2_addAll_46 rfl (lv_at hl 4 rfl) ?_
      refine lv_iload (pc := 47) hx hb dJ2_addAll_47 (lv_at hl 0 rfl) ?_
      refine lv_iload_n (pc := 49) hx hb dJ2_addAll_49 rfl (lv_at hl 2 rfl) ?_
      refine lv_iadd (pc := 50) hx hb dJ2_addAll_50 ?_
      replace hf := b6s hf; obtain ⟨r10, T11, N12, Z13, S14, R15, hk_16, hf⟩ := hf
      have hm_hk_16 := zJ2_grow hk_16
      have hm := zJ2_addAll_b54 hf
      refine x_callV (pc := 51) (As := [.int (u8 + u4)]) (rest := []) X V (mJ2_grow l D dA s0 (kc := Z13 - Z) (ks := S14 - S) (Nat.le_refl _) (Nat.le_refl _) hk_16) okJ2 ht1 q524 q526 qs2 q124 q527 ⟨rfl, hsJ2_grow⟩ ⟨Nat.le_of_ble_eq_true rfl, Nat.le_of_ble_eq_true rfl⟩ rfl hl.1 rfl (Nat.le_of_ble_eq_true rfl) dJ2_addAll_51 ⟨by show _ ≤ kc; omega, by show _ ≤ ks; omega⟩ (fun H locs V => W.eq (g2 := F0 m 54 ls [.ref r10]) rfl ?_)
      exact wJ2_addAll_b54 X hr hf V (lv_sub hl [4, 3, 2, 0] rfl) ⟨by omega, by omega⟩
  · replace hf := if_t hf c5
    refine lv_iconst (pc := 24) (v := (ii 0)) hx hb dJ2_addAll_24 (by decide) ?_
    cases hf
    exact x_zretW (pc := 25) X V hr (by omega) (by omega) (by decide) dJ2_addAll_25
set_option maxHeartbeats 400000 in
set_option maxRecDepth 100000 in
theorem zJ2_addAll {T : xT} {N : xT} {Z : Nat} {S : Nat} {I : xI} {R : xR} {x0 : Nat} {x1 : Nat} {ro : Int32} {To : xT} {No : xT} {Zo : Nat} {So : Nat} {Io : xI} {Ro : xR} (hf : fJ2_addAll T N Z S I R x0 x1 = some (ro, To, No, Zo, So, Io, Ro)) : Z ≤ Zo ∧ S ≤ So := by
  unfold fJ2_addAll at hf
  replace hf := tg_s hf; obtain ⟨ht8, hf⟩ := hf
  replace hf := b6s hf; obtain ⟨r1, T2, N3, Z4, S5, R6, hk_7, hf⟩ := hf
  have hm_hk_7 := zJ2_toArray hk_7
  have hm := zJ2_addAll_b6 hf
  exact ⟨by omega, by omega⟩
set_option maxHeartbeats 400000 in
set_option maxRecDepth 100000 in
theorem wJ2_addAll_e {kc ks : Nat} {cells slots : Nat} {p : Program} {l : Launch} {e : Env} {s : State} {m : MethodId} {args : Array Value} {below : List Frame} {meth : Method} {c : Code} {D : va_G} {dA : Nat → ClassId} {s0 : Nat} {T : xT} {N : xT} {Z : Nat} {S : Nat} {I : xI} {L : xL} {R : xR} {H : Heap} {locs : List Loc} {ls : Array Slot} {x0 : Nat} {x1 : Nat} {ro : Int32} {To : xT} {No : xT} {Zo : Nat} {So : Nat} {Io : xI} {Ro : xR} (X : Cx D dA s0 p m c cJ2_addAll 6 s args RJ2 meth) (hr : meth.sig.returnType = (some .boolean)) (hf : fJ2_addAll T N Z S I R x0 x1 = some (ro, To, No, Zo, So, Io, Ro)) (V : Iv D dA s0 s T N Z I L R H locs) (hl : lv_has ls 6 [(0, .ref x0), (1, .ref x1)]) (hB : cells + (Zo - Z) ≤ kc ∧ slots + (So - S) ≤ ks) : W p l e { frames := 4, cells := kc, slots := ks, locals := 127 } s m args below meth c H locs cells slots (MQ below (xQ D dA s0 (some (.int ro)) To No Zo Io L Ro) args s kc ks (fun q => s0 ≤ q)) (F0 m 0 ls []) := by
  have hx := X.1.1
  have hb := X.1.2.1
  unfold fJ2_addAll at hf
  refine lv_aload_n (pc := 0) hx hb dJ2_addAll_0 rfl (lv_at hl 1 rfl) ?_
  replace hf := tg_s hf; obtain ⟨ht8, hf⟩ := hf
  replace hf := b6s hf; obtain ⟨r1, T2, N3, Z4, S5, R6, hk_7, hf⟩ := hf
  have hm_hk_7 := zJ2_toArray hk_7
  have hm := zJ2_addAll_b6 hf
  refine x_callF (pc := 1) (rest := []) X V (mJ2_toArray l D dA s0 (kc := Z4 - Z) (ks := S5 - S) (Nat.le_refl _) (Nat.le_refl _) hk_7) okJ2 ht8 q480 q484 q486 q124 q488 ⟨Nat.le_of_ble_eq_true rfl, Nat.le_of_ble_eq_true rfl⟩ hl.1 (Nat.le_of_ble_eq_true rfl) dJ2_addAll_1 ⟨by show _ ≤ kc; omega, by show _ ≤ ks; omega⟩ (fun H locs V => W.eq (g2 := F0 m 6 ls [.ref r1]) rfl ?_)
  exact wJ2_addAll_b6 X hr hf V (lv_sub hl [0] rfl) ⟨by omega, by omega⟩
theorem mJ2_addAll (l : Launch) (D : va_G) (dA : Nat → ClassId) (s0 : Nat) {kc ks : Nat} {T : xT} {N : xT} {Z : Nat} {S : Nat} {I : xI} {L : xL} {R : xR} {x0 : Nat} {x1 : Nat} {ro : Int32} {To : xT} {No : xT} {Zo : Nat} {So : Nat} {Io : xI} {Ro : xR} (hZ : Zo - Z ≤ kc) (hS : So - S ≤ ks) (hf : fJ2_addAll T N Z S I R x0 x1 = some (ro, To, No, Zo, So, Io, Ro)) : XMet l D dA s0 yJ2_addAll (ws_ yJ2_addAll cJ2_addAll 6 ((some .boolean))) (4) (127) [.ref x0, .ref x1] T N Z I L R (some (.int ro)) To No Zo Io L Ro kc ks :=
  x_start (own := RJ2) rfl (by decide) (Nat.le_of_ble_eq_true rfl) (lv := [(0, .ref x0), (1, .ref x1)]) rfl (fun p e s m below meth c ls X hr hini V hl => wJ2_addAll_e X hr hf V hl ⟨by omega, by omega⟩)
