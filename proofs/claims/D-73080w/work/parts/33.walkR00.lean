set_option maxHeartbeats 400000 in
set_option maxRecDepth 100000 in
theorem wX6_init_rX7_e {p : Program} {l : Launch} {e : Env} {s : State} {m : MethodId} {args : Array Value} {below : List Frame} {meth : Method} {c : Code} {D : va_G} {dA : Nat → ClassId} {s0 : Nat} {T : xT} {N : xT} {Z : Nat} {I : xI} {L : xL} {R : xR} {H : Heap} {locs : List Loc} {ls : Array Slot} {x0 : Nat} {x1 : Nat} {x2 : Int32} {Io : xI} {Ro : xR} (X : Cx D dA s0 p m c cX6_init 3 s args RX6 meth) (hr : meth.sig.returnType = none) (hini : meth.name = "<init>") (hf : fX6_init_rX7 T I R x0 x1 x2 = some (Io, Ro)) (V : Iv D dA s0 s T N Z I L R H locs) (hl : lv_has ls 3 [(0, .ref x0), (1, .ref x1), (2, .int x2)]) : W p l e { frames := 1, cells := 0, slots := 0, locals := 20 } s m args below meth c H locs 0 0 (MQ below (xQ D dA s0 none T N Z Io L Ro) args s 0 0 (fun q => s0 ≤ q)) (F0 m 0 ls []) := by
  have hx := X.1.1
  have hb := X.1.2.1
  unfold fX6_init_rX7 at hf
  refine lv_aload_n (pc := 0) hx hb dX6_init_0 rfl (lv_at hl 0 rfl) ?_
  refine x_objInit (pc := 1) X q736 q161 q162 hl.1 (Nat.le_of_ble_eq_true rfl) (Nat.le_of_ble_eq_true rfl) dX6_init_1 ?_
  refine lv_aload_n (pc := 4) hx hb dX6_init_4 rfl (lv_at hl 0 rfl) ?_
  refine lv_aload_n (pc := 5) hx hb dX6_init_5 rfl (lv_at hl 1 rfl) ?_
  replace hf := tg_s hf; obtain ⟨ht1, hf⟩ := hf
  replace hf := nm_s hf; obtain ⟨R2, hR2, hf⟩ := hf
  refine x_putr (pc := 6) X V okX7 (by decide) ht1 0 (by decide) q741 (Or.inr ⟨rfl, hini, rfl⟩) hR2 (fun _ _ _ => rfl) (v := .ref x1) rfl rfl rfl dX6_init_6 (fun H locs V => ?_)
  refine lv_aload_n (pc := 9) hx hb dX6_init_9 rfl (lv_at hl 0 rfl) ?_
  refine lv_iload_n (pc := 10) hx hb dX6_init_10 rfl (lv_at hl 2 rfl) ?_
  replace hf := nm_s hf; obtain ⟨I3, hI3, hf⟩ := hf
  refine x_puti (pc := 11) X V okX7 (by decide) ht1 1 (by decide) q742 (Or.inr ⟨rfl, hini, rfl⟩) hI3 (fun _ _ _ => rfl) rfl rfl dX6_init_11 (fun H locs V => ?_)
  cases hf
  exact x_vret (pc := 14) X V hr dX6_init_14
theorem mX6_init_rX7 (l : Launch) (D : va_G) (dA : Nat → ClassId) (s0 : Nat) {T : xT} {N : xT} {Z : Nat} {I : xI} {L : xL} {R : xR} {x0 : Nat} {x1 : Nat} {x2 : Int32} {Io : xI} {Ro : xR} (hf : fX6_init_rX7 T I R x0 x1 x2 = some (Io, Ro)) : XMet l D dA s0 yX6_init (ws_ yX6_init cX6_init 3 (none)) (1) (20) [.ref x0, .ref x1, .int x2] T N Z I L R none T N Z Io L Ro 0 0 :=
  x_start (own := RX6) rfl (by decide) (Nat.le_of_ble_eq_true rfl) (lv := [(0, .ref x0), (1, .ref x1), (2, .int x2)]) rfl (fun p e s m below meth c ls X hr hini V hl => wX6_init_rX7_e X hr hini hf V hl)
set_option maxHeartbeats 400000 in
set_option maxRecDepth 100000 in
theorem zX7_init_b15 {T : xT} {N : xT} {Z : Nat} {S : Nat} {I : xI} {R : xR}  {z0 : Nat} {z1 : Nat} {To : xT} {No : xT} {Zo : Nat} {So : Nat} {Io : xI} {Ro : xR}  (hf : fX7_init_b15 T N Z S I R z0 z1 = some (To, No, Zo, So, Io, Ro)) : Z ≤ Zo ∧ S ≤ So := by
  unfold fX7_init_b15 at hf
  replace hf := tg_s hf; obtain ⟨ht1, hf⟩ := hf
  replace hf := nm_s hf; obtain ⟨R2, hR2, hf⟩ := hf
  cases hf
  exact ⟨Nat.le_refl _, Nat.le_refl _⟩
set_option maxHeartbeats 400000 in
set_option maxRecDepth 100000 in
theorem wX7_init_b15 {kc ks : Nat} {cells slots : Nat} {p : Program} {l : Launch} {e : Env} {s : State} {m : MethodId} {args : Array Value} {below : List Frame} {meth : Method} {c : Code} {D : va_G} {dA : Nat → ClassId} {s0 : Nat} {T : xT} {N : xT} {Z : Nat} {S : Nat} {I : xI} {L : xL} {R : xR} {H : Heap} {locs : List Loc} {ls : Array Slot}  {z0 : Nat} {z1 : Nat} {To : xT} {No : xT} {Zo : Nat} {So : Nat} {Io : xI} {Ro : xR} (X : Cx D dA s0 p m c cX7_init 3 s args RX7 meth) (hr : meth.sig.returnType = none) (hini : meth.name = "<init>")   (hf : fX7_init_b15 T N Z S I R z0 z1 = some (To, No, Zo, So, Io, Ro)) (V : Iv D dA s0 s T N Z I L R H locs) (hl : lv_has ls 3 []) (hB : cells + (Zo - Z) ≤ kc ∧ slots + (So - S) ≤ ks) : W p l e { frames := 4, cells := kc, slots := ks, locals := 81 } s m args below meth c H locs cells slots (MQ below (xQ D dA s0 none To No Zo Io L Ro) args s kc ks (fun q => s0 ≤ q)) (F0 m 15 ls [.ref z1, .ref z0]) := by
  have hx := X.1.1
  have hb := X.1.2.1
  unfold fX7_init_b15 at hf
  replace hf := tg_s hf; obtain ⟨ht1, hf⟩ := hf
  replace hf := nm_s hf; obtain ⟨R2, hR2, hf⟩ := hf
  refine x_putr (pc := 15) X V okX7 (by decide) ht1 7 (by decide) q739 (Or.inr ⟨rfl, hini, rfl⟩) hR2 (fun _ _ _ => rfl) (v := .ref z1) rfl rfl rfl dX7_init_15 (fun H locs V => ?_)
  cases hf
  exact x_vretW (pc := 18) X V hr (by omega) (by omega) dX7_init_18
set_option maxHeartbeats 400000 in
set_option maxRecDepth 100000 in
theorem zX7_init_b10 {T : xT} {N : xT} {Z : Nat} {S : Nat} {I : xI} {R : xR}  {z0 : Nat} {z1 : Nat} {To : xT} {No : xT} {Zo : Nat} {So : Nat} {Io : xI} {Ro : xR}  (hf : fX7_init_b10 T N Z S I R z0 z1 = some (To, No, Zo, So, Io, Ro)) : Z ≤ Zo ∧ S ≤ So := by
  unfold fX7_init_b10 at hf
  replace hf := b6s hf; obtain ⟨T1, N2, Z3, S4, I5, R6, hk_7, hf⟩ := hf
  have hm_hk_7 := zJ2_init hk_7
  have hm := zX7_init_b15 hf
  exact ⟨by omega, by omega⟩
set_option maxHeartbeats 400000 in
set_option maxRecDepth 100000 in
theorem wX7_init_b10 {kc ks : Nat} {cells slots : Nat} {p : Program} {l : Launch} {e : Env} {s : State} {m : MethodId} {args : Array Value} {below : List Frame} {meth : Method} {c : Code} {D : va_G} {dA : Nat → ClassId} {s0 : Nat} {T : xT} {N : xT} {Z : Nat} {S : Nat} {I : xI} {L : xL} {R : xR} {H : Heap} {locs : List Loc} {ls : Array Slot}  {z0 : Nat} {z1 : Nat} {To : xT} {No : xT} {Zo : Nat} {So : Nat} {Io : xI} {Ro : xR} (X : Cx D dA s0 p m c cX7_init 3 s args RX7 meth) (hr : meth.sig.returnType = none) (hini : meth.name = "<init>")   (hf : fX7_init_b10 T N Z S I R z0 z1 = some (To, No, Zo, So, Io, Ro)) (V : Iv D dA s0 s T N Z I L R H locs) (hl : lv_has ls 3 []) (hB : cells + (Zo - Z) ≤ kc ∧ slots + (So - S) ≤ ks) : W p l e { frames := 4, cells := kc, slots := ks, locals := 81 } s m args below meth c H locs cells slots (MQ below (xQ D dA s0 none To No Zo Io L Ro) args s kc ks (fun q => s0 ≤ q)) (F0 m 10 ls [.ref z1, .ref z0]) := by
  have hx := X.1.1
  have hb := X.1.2.1
  unfold fX7_init_b10 at hf
  refine lv_dup (pc := 10) hx hb dX7_init_10 rfl ?_
  refine lv_iconst (pc := 11) (v := (ii 2)) hx hb dX7_init_11 (by decide) ?_
  replace hf := b6s hf; obtain ⟨T1, N2, Z3, S4, I5, R6, hk_7, hf⟩ := hf
  have hm_hk_7 := zJ2_init hk_7
  have hm := zX7_init_b15 hf
  refine x_callI (pc := 12) (As := [.int (ii 2)]) (rest := [.ref z1, .ref z0]) X V (mJ2_init l D dA s0 (kc := Z3 - Z) (ks := S4 - S) (Nat.le_refl _) (Nat.le_refl _) hk_7) q738 q196 q124 q197 rfl hsJ2_init ⟨Nat.le_of_ble_eq_true rfl, Nat.le_of_ble_eq_true rfl⟩ rfl hl.1 rfl (Nat.le_of_ble_eq_true rfl) dX7_init_12 ⟨by show _ ≤ kc; omega, by show _ ≤ ks; omega⟩ (fun H locs V => W.eq (g2 := F0 m 15 ls [.ref z1, .ref z0]) rfl ?_)
  exact wX7_init_b15 X hr hini hf V (lv_sub hl [] rfl) ⟨by omega, by omega⟩
set_option maxHeartbeats 400000 in
set_option maxRecDepth 100000 in
theorem zX7_init {T : xT} {N : xT} {Z : Nat} {S : Nat} {I : xI} {R : xR} {x0 : Nat} {x1 : Nat} {x2 : Int32} {To : xT} {No : xT} {Zo : Nat} {So : Nat} {Io : xI} {Ro : xR} (hf : fX7_init T N Z S I R x0 x1 x2 = some (To, No, Zo, So, Io, Ro)) : Z ≤ Zo ∧ S ≤ So := by
  unfold fX7_init at hf
  replace hf := b2s hf; obtain ⟨I1, R2, hk_3, hf⟩ := hf
  replace hf := nm_s hf; obtain ⟨T4, hT4, hf⟩ := hf
  replace hf := nm_s hf; obtain ⟨Z5, hZ5, hf⟩ := hf
  replace hf := nm_s hf; obtain ⟨S6, hS6, hf⟩ := hf
  have hm := zX7_init_b10 hf
  exact ⟨by omega, by omega⟩
set_option maxHeartbeats 400000 in
set_option maxRecDepth 100000 in
theorem wX7_init_e {kc ks : Nat} {cells slots : Nat} {p : Program} {l : Launch} {e : Env} {s : State} {m : MethodId} {args : Array Value} {below : List Frame} {meth : Method} {c : Code} {D : va_G} {dA : Nat → ClassId} {s0 : Nat} {T : xT} {N : xT} {Z : Nat} {S : Nat} {I : xI} {L : xL} {R : xR} {H : Heap} {locs : List Loc} {ls : Array Slot} {x0 : Nat} {x1 : Nat} {x2 : Int32} {To : xT} {No : xT} {Zo : Nat} {So : Nat} {Io : xI} {Ro : xR} (X : Cx D dA s0 p m c cX7_init 3 s args RX7 meth) (hr : meth.sig.returnType = none) (hini : meth.name = "<init>") (hf : fX7_init T N Z S I R x0 x1 x2 = some (To, No, Zo, So, Io, Ro)) (V : Iv D dA s0 s T N Z I L R H locs) (hl : lv_has ls 3 [(0, .ref x0), (1, .ref x1), (2, .int x2)]) (hB : cells + (Zo - Z) ≤ kc ∧ slots + (So - S) ≤ ks) : W p l e { frames := 4, cells := kc, slots := ks, locals := 81 } s m args below meth c H locs cells slots (MQ below (xQ D dA s0 none To No Zo Io L Ro) args s kc ks (fun q => s0 ≤ q)) (F0 m 0 ls []) := by
  have hx := X.1.1
  have hb := X.1.2.1
  unfold fX7_init at hf
  refine lv_aload_n (pc := 0) hx hb dX7_init_0 rfl (lv_at hl 0 rfl) ?_
  refine lv_aload_n (pc := 1) hx hb dX7_init_1 rfl (lv_at hl 1 rfl) ?_
  refine lv_iload_n (pc := 2) hx hb dX7_init_2 rfl (lv_at hl 2 rfl) ?_
  replace hf := b2s hf; obtain ⟨I1, R2, hk_3, hf⟩ := hf
  refine x_callI0 (pc := 3) (As := [.ref x1, .int x2]) (rest := []) X V (mX6_init_rX7 l D dA s0 hk_3) q733 q734 q133 q735 rfl hsX6_init_rX7 ⟨Nat.le_of_ble_eq_true rfl, Nat.le_of_ble_eq_true rfl⟩ rfl hl.1 rfl (Nat.le_of_ble_eq_true rfl) dX7_init_3 ⟨by show cells ≤ kc; omega, by show slots ≤ ks; omega⟩ (fun H locs V => W.eq (g2 := F0 m 6 ls []) rfl ?_)
  refine lv_aload_n (pc := 6) hx hb dX7_init_6 rfl (lv_at hl 0 rfl) ?_
  replace hf := nm_s hf; obtain ⟨T4, hT4, hf⟩ := hf
  replace hf := nm_s hf; obtain ⟨Z5, hZ5, hf⟩ := hf
  replace hf := nm_s hf; obtain ⟨S6, hS6, hf⟩ := hf
  have hm := zX7_init_b10 hf
  refine x_new (pc := 7) X V okJ2 hT4 hZ5 q737 q194 q124 (by show _ ≤ kc; omega) (by show _ ≤ ks; omega) dX7_init_7 (fun H V => ?_)
  exact wX7_init_b10 X hr hini hf V (lv_sub hl [] rfl) ⟨by omega, by omega⟩
theorem mX7_init (l : Launch) (D : va_G) (dA : Nat → ClassId) (s0 : Nat) {kc ks : Nat} {T : xT} {N : xT} {Z : Nat} {S : Nat} {I : xI} {L : xL} {R : xR} {x0 : Nat} {x1 : Nat} {x2 : Int32} {To : xT} {No : xT} {Zo : Nat} {So : Nat} {Io : xI} {Ro : xR} (hZ : Zo - Z ≤ kc) (hS : So - S ≤ ks) (hf : fX7_init T N Z S I R x0 x1 x2 = some (To, No, Zo, So, Io, Ro)) : XMet l D dA s0 yX7_init (ws_ yX7_init cX7_init 3 (none)) (4) (81) [.ref x0, .ref x1, .int x2] T N Z I L R none To No Zo Io L Ro kc ks :=
  x_start (own := RX7) rfl (by decide) (Nat.le_of_ble_eq_true rfl) (lv := [(0, .ref x0), (1, .ref x1), (2, .int x2)]) rfl (fun p e s m below meth c ls X hr hini V hl => wX7_init_e X hr hini hf V hl ⟨by omega, by omega⟩)
set_option maxHeartbeats 400000 in
set_option maxRecDepth 100000 in
theorem wJ8_coder_e {p : Program} {l : Launch} {e : Env} {s : State} {m : MethodId} {args : Array Value} {below : List Frame} {meth : Method} {c : Code} {D : va_G} {dA : Nat → ClassId} {s0 : Nat} {T : xT} {N : xT} {Z : Nat} {I : xI} {L : xL} {R : xR} {H : Heap} {locs : List Loc} {ls : Array Slot} {x0 : Nat} {ro : Int32} (X : Cx D dA s0 p m c cJ8_coder 1 s args RJ8 meth) (hr : meth.sig.returnType = (some .byte)) (hf : fJ8_coder T I x0 = some ro) (V : Iv D dA s0 s T N Z I L R H locs) (hl : lv_has ls 1 [(0, .ref x0)]) : W p l e { frames := 0, cells := 0, slots := 0, locals := 0 } s m args below meth c H locs 0 0 (MQ below (xQ D dA s0 (some (.int ro)) T N Z I L R) args s 0 0 (fun q => s0 ≤ q)) (F0 m 0 ls []) := by
  have hx := X.1.1
  have hb := X.1.2.1
  unfold fJ8_coder at hf
  refine x_getsC (pc := 0) X V q809 dJ8_coder_0 ?_
  refine lv_if_eq (pc := 3) (tgt := 13) hx hb dJ8_coder_3 (by decide) (fun c1 => ?_) (fun c1 => ?_)
  · replace hf := if_t hf c1
    refine lv_iconst (pc := 13) (v := (ii 1)) hx hb dJ8_coder_13 (by decide) ?_
    replace hf := chk_s hf; obtain ⟨hz2, hf⟩ := hf
    cases hf
    exact x_bret (pc := 14) X V hr hz2 dJ8_coder_14
  · replace hf := if_f hf c1
    refine lv_aload_n (pc := 6) hx hb dJ8_coder_6 rfl (lv_at hl 0 rfl) ?_
    replace hf := tg_s hf; obtain ⟨ht3, hf⟩ := hf
    refine x_strC (pc := 7) X V ht3 q2267 dJ8_coder_7 ?_
    refine lv_goto (pc := 10) (tgt := 14) hx hb dJ8_coder_10 (by decide) ?_
    replace hf := chk_s hf; obtain ⟨hz4, hf⟩ := hf
    cases hf
    exact x_bret (pc := 14) X V hr hz4 dJ8_coder_14
theorem mJ8_coder (l : Launch) (D : va_G) (dA : Nat → ClassId) (s0 : Nat) {T : xT} {N : xT} {Z : Nat} {I : xI} {L : xL} {R : xR} {x0 : Nat} {ro : Int32} (hf : fJ8_coder T I x0 = some ro) : XMet l D dA s0 yJ8_coder (ws_ yJ8_coder cJ8_coder 1 ((some .byte))) (0) (0) [.ref x0] T N Z I L R (some (.int ro)) T N Z I L R 0 0 :=
  x_start (own := RJ8) rfl (by decide) (Nat.le_of_ble_eq_true rfl) (lv := [(0, .ref x0)]) rfl (fun p e s m below meth c ls X hr hini V hl => wJ8_coder_e X hr hf V hl)
set_option maxHeartbeats 400000 in
set_option maxRecDepth 100000 in
theorem wJ8_length_e {p : Program} {l : Launch} {e : Env} {s : State} {m : MethodId} {args : Array Value} {below : List Frame} {meth : Method} {c : Code} {D : va_G} {dA : Nat → ClassId} {s0 : Nat} {T : xT} {N : xT} {Z : Nat} {I : xI} {L : xL} {R : xR} {H : Heap} {locs : List Loc} {ls : Array Slot} {x0 : Nat} {ro : Int32} (X : Cx D dA s0 p m c cJ8_length 1 s args RJ8 meth) (hr : meth.sig.returnType = (some .int)) (hf : fJ8_length T N I R x0 = some ro) (V : Iv D dA s0 s T N Z I L R H locs) (hl : lv_has ls 1 [(0, .ref x0)]) : W p l e { frames := 1, cells := 0, slots := 0, locals := 20 } s m args below meth c H locs 0 0 (MQ below (xQ D dA s0 (some (.int ro)) T N Z I L R) args s 0 0 (fun q => s0 ≤ q)) (F0 m 0 ls []) := by
  have hx := X.1.1
  have hb := X.1.2.1
  unfold fJ8_length at hf
  refine lv_aload_n (pc := 0) hx hb dJ8_length_0 rfl (lv_at hl 0 rfl) ?_
  replace hf := tg_s hf; obtain ⟨ht1, hf⟩ := hf
  replace hf := bs hf; obtain ⟨a2, ha2, hf⟩ := hf
  refine x_strV (pc := 1) X V ht1 q2266 dJ8_length_1 ?_
  refine x_topr ha2 ?_
  replace hf := tg_s hf; obtain ⟨ht3, hf⟩ := hf
  refine x_alen7 (pc := 4) X V ht3 dJ8_length_4 ?_
  refine lv_aload_n (pc := 5) hx hb dJ8_length_5 rfl (lv_at hl 0 rfl) ?_
  replace hf := bs hf; obtain ⟨r4, hk_5, hf⟩ := hf
  refine x_callVS0 (pc := 6) (As := []) (rest := [.int (Int32.ofNat (N a2))]) X V (mJ8_coder l D dA s0 hk_5) ht1 q805 q806 q807 q135 q808 ⟨rfl, hsJ8_coder⟩ ⟨Nat.le_of_ble_eq_true rfl, Nat.le_of_ble_eq_true rfl⟩ rfl hl.1 rfl (Nat.le_of_ble_eq_true rfl) dJ8_length_6 ⟨Nat.zero_le _, Nat.zero_le _⟩ (fun H locs V => W.eq (g2 := F0 m 9 ls [.int r4, .int (Int32.ofNat (N a2))]) rfl ?_)
  refine lv_ishr (pc := 9) hx hb dJ8_length_9 ?_
  cases hf
  exact x_iret (pc := 10) X V hr dJ8_length_10
theorem mJ8_length (l : Launch) (D : va_G) (dA : Nat → ClassId) (s0 : Nat) {T : xT} {N : xT} {Z : Nat} {I : xI} {L : xL} {R : xR} {x0 : Nat} {ro : Int32} (hf : fJ8_length T N I R x0 = some ro) : XMet l D dA s0 yJ8_length (ws_ yJ8_length cJ8_length 1 ((some .int))) (1) (20) [.ref x0] T N Z I L R (some (.int ro)) T N Z I L R 0 0 :=
  x_start (own := RJ8) rfl (by decide) (Nat.le_of_ble_eq_true rfl) (lv := [(0, .ref x0)]) rfl (fun p e s m below meth c ls X hr hini V hl => wJ8_length_e X hr hf V hl)
set_option maxHeartbeats 400000 in
set_option maxRecDepth 100000 in
theorem wJ8_isLatin1_e {p : Program} {l : Launch} {e : Env} {s : State} {m : MethodId} {args : Array Value} {below : List Frame} {meth : Method} {c : Code} {D : va_G} {dA : Nat → ClassId} {s0 : Nat} {T : xT} {N : xT} {Z : Nat} {I : xI} {L : xL} {R : xR} {H : Heap} {locs : List Loc} {ls : Array Slot} {x0 : Nat} {ro : Int32} (X : Cx D dA s0 p m c cJ8_isLatin1 1 s args RJ8 meth) (hr : meth.sig.returnType = (some .boolean)) (hf : fJ8_isLatin1 T I x0 = some ro) (V : Iv D dA s0 s T N Z I L R H locs) (hl : lv_has ls 1 [(0, .ref x0)]) : W p l e { frames := 0, cells := 0, slots := 0, locals := 0 } s m args below meth c H locs 0 0 (MQ below (xQ D dA s0 (some (.int ro)) T N Z I L R) args s 0 0 (fun q => s0 ≤ q)) (F0 m 0 ls []) := by
  have hx := X.1.1
  have hb := X.1.2.1
  unfold fJ8_isLatin1 at hf
  refine x_getsC (pc := 0) X V q809 dJ8_isLatin1_0 ?_
  refine lv_if_eq (pc := 3) (tgt := 17) hx hb dJ8_isLatin1_3 (by decide) (fun c1 => ?_) (fun c1 => ?_)
  · replace hf := if_t hf c1
    refine lv_iconst (pc := 17) (v := (ii 0)) hx hb dJ8_isLatin1_17 (by decide) ?_
    cases hf
    exact x_zret (pc := 18) X V hr (by decide) dJ8_isLatin1_18
  · replace hf := if_f hf c1
    refine lv_aload_n (pc := 6) hx hb dJ8_isLatin1_6 rfl (lv_at hl 0 rfl) ?_
    replace hf := tg_s hf; obtain ⟨ht2, hf⟩ := hf
    refine x_strC (pc := 7) X V ht2 q2267 dJ8_isLatin1_7 ?_
    refine lv_if_ne (pc := 10) (tgt := 17) hx hb dJ8_isLatin1_10 (by decide) (fun c3 => ?_) (fun c3 => ?_)
    · replace hf := if_f hf c3
      refine lv_iconst (pc := 17) (v := (ii 0)) hx hb dJ8_isLatin1_17 (by decide) ?_
      cases hf
      exact x_zret (pc := 18) X V hr (by decide) dJ8_isLatin1_18
    · replace hf := if_t hf c3
      refine lv_iconst (pc := 13) (v := (ii 1)) hx hb dJ8_isLatin1_13 (by decide) ?_
      refine lv_goto (pc := 14) (tgt := 18) hx hb dJ8_isLatin1_14 (by decide) ?_
      cases hf
      exact x_zret (pc := 18) X V hr (by decide) dJ8_isLatin1_18
theorem mJ8_isLatin1 (l : Launch) (D : va_G) (dA : Nat → ClassId) (s0 : Nat) {T : xT} {N : xT} {Z : Nat} {I : xI} {L : xL} {R : xR} {x0 : Nat} {ro : Int32} (hf : fJ8_isLatin1 T I x0 = some ro) : XMet l D dA s0 yJ8_isLatin1 (ws_ yJ8_isLatin1 cJ8_isLatin1 1 ((some .boolean))) (0) (0) [.ref x0] T N Z I L R (some (.int ro)) T N Z I L R 0 0 :=
  x_start (own := RJ8) rfl (by decide) (Nat.le_of_ble_eq_true rfl) (lv := [(0, .ref x0)]) rfl (fun p e s m below meth c ls X hr hini V hl => wJ8_isLatin1_e X hr hf V hl)
set_option maxHeartbeats 400000 in
set_option maxRecDepth 100000 in
theorem wJ6_checkIndex_e {p : Program} {l : Launch} {e : Env} {s : State} {m : MethodId} {args : Array Value} {below : List Frame} {meth : Method} {c : Code} {D : va_G} {dA : Nat → ClassId} {s0 : Nat} {T : xT} {N : xT} {Z : Nat} {I : xI} {L : xL} {R : xR} {H : Heap} {locs : List Loc} {ls : Array Slot} {x0 : Int32} {x1 : Int32} {x2 : Nat} {ro : Int32} (X : Cx D dA s0 p m c cJ6_checkIndex 3 s args RJ6 meth) (hr : meth.sig.returnType = (some .int)) (hf : fJ6_checkIndex x0 x1 x2 = some ro) (V : Iv D dA s0 s T N Z I L R H locs) (hl : lv_has ls 3 [(0, .int x0), (1, .int x1), (2, .ref x2)]) : W p l e { frames := 0, cells := 0, slots := 0, locals := 0 } s m args below meth c H locs 0 0 (MQ below (xQ D dA s0 (some (.int ro)) T N Z I L R) args s 0 0 (fun q => s0 ≤ q)) (F0 m 0 ls []) := by
  have hx := X.1.1
  have hb := X.1.2.1
  unfold fJ6_checkIndex at hf
  refine lv_iload_n (pc := 0) hx hb dJ6_checkIndex_0 rfl (lv_at hl 0 rfl) ?_
  refine lv_if_lt (pc := 1) (tgt := 9) hx hb dJ6_checkIndex_1 (by decide) (fun c1 => ?_) (fun c1 => ?_)
  · replace hf := if_t hf c1
    refine lv_aload_n (pc := 9) hx hb dJ6_checkIndex_9 rfl (lv_at hl 2 rfl) ?_
    refine lv_iload_n (pc := 10) hx hb dJ6_checkIndex_10 rfl (lv_at hl 0 rfl) ?_
    refine lv_iload_n (pc := 11) hx hb dJ6_checkIndex_11 rfl (lv_at hl 1 rfl) ?_
    cases hf
  · replace hf := if_f hf c1
    refine lv_iload_n (pc := 4) hx hb dJ6_checkIndex_4 rfl (lv_at hl 0 rfl) ?_
    refine lv_iload_n (pc := 5) hx hb dJ6_checkIndex_5 rfl (lv_at hl 1 rfl) ?_
    refine lv_icmp_lt (pc := 6) (tgt := 16) hx hb dJ6_checkIndex_6 (by decide) (fun c2 => ?_) (fun c2 => ?_)
    · replace hf := if_t hf c2
      refine lv_iload_n (pc := 16) hx hb dJ6_checkIndex_16 rfl (lv_at hl 0 rfl) ?_
      cases hf
      exact x_iret (pc := 17) X V hr dJ6_checkIndex_17
    · replace hf := if_f hf c2
      refine lv_aload_n (pc := 9) hx hb dJ6_checkIndex_9 rfl (lv_at hl 2 rfl) ?_
      refine lv_iload_n (pc := 10) hx hb dJ6_checkIndex_10 rfl (lv_at hl 0 rfl) ?_
      refine lv_iload_n (pc := 11) hx hb dJ6_checkIndex_11 rfl (lv_at hl 1 rfl) ?_
      cases hf
theorem mJ6_checkIndex (l : Launch) (D : va_G) (dA : Nat → ClassId) (s0 : Nat) {T : xT} {N : xT} {Z : Nat} {I : xI} {L : xL} {R : xR} {x0 : Int32} {x1 : Int32} {x2 : Nat} {ro : Int32} (hf : fJ6_checkIndex x0 x1 x2 = some ro) : XMet l D dA s0 yJ6_checkIndex (ws_ yJ6_checkIndex cJ6_checkIndex 3 ((some .int))) (0) (0) [.int x0, .int x1, .ref x2] T N Z I L R (some (.int ro)) T N Z I L R 0 0 :=
  x_start (own := RJ6) rfl (by decide) (Nat.le_of_ble_eq_true rfl) (lv := [(0, .int x0), (1, .int x1), (2, .ref x2)]) rfl (fun p e s m below meth c ls X hr hini V hl => wJ6_checkIndex_e X hr hf V hl)
set_option maxHeartbeats 400000 in
set_option maxRecDepth 100000 in
theorem wJ8_checkIndex_e {p : Program} {l : Launch} {e : Env} {s : State} {m : MethodId} {args : Array Value} {below : List Frame} {meth : Method} {c : Code} {D : va_G} {dA : Nat → ClassId} {s0 : Nat} {T : xT} {N : xT} {Z : Nat} {I : xI} {L : xL} {R : xR} {H : Heap} {locs : List Loc} {ls : Array Slot} {x0 : Int32} {x1 : Int32}  (X : Cx D dA s0 p m c cJ8_checkIndex 2 s args RJ8 meth) (hr : meth.sig.returnType = none) (hf : fJ8_checkIndex (sv dA) x0 x1 = some ()) (V : Iv D dA s0 s T N Z I L R H locs) (hl : lv_has ls 2 [(0, .int x0), (1, .int x1)]) : W p l e { frames := 1, cells := 0, slots := 0, locals := 22 } s m args below meth c H locs 0 0 (MQ below (xQ D dA s0 none T N Z I L R) args s 0 0 (fun q => s0 ≤ q)) (F0 m 0 ls []) := by
  have hx := X.1.1
  have hb := X.1.2.1
  unfold fJ8_checkIndex at hf
  refine lv_iload_n (pc := 0) hx hb dJ8_checkIndex_0 rfl (lv_at hl 0 rfl) ?_
  refine lv_iload_n (pc := 1) hx hb dJ8_checkIndex_1 rfl (lv_at hl 1 rfl) ?_
  refine x_gets2 (pc := 2) X V q825 dJ8_checkIndex_2 ?_
  replace hf := oc_s hf; rcases hf with ⟨ha1, hf⟩ | ⟨a1, ha1, hf⟩
  · refine x_topn ha1 ?_
    replace hf := bs hf; obtain ⟨r2, hk_3, hf⟩ := hf
    refine x_callS0 (pc := 5) (As := [.int x0, .int x1, .null]) (rest := []) X V (mJ6_checkIndex_n3 l D dA s0 hk_3) q827 q610 q131 q611 hsJ6_checkIndex_n3 ⟨Nat.le_of_ble_eq_true rfl, Nat.le_of_ble_eq_true rfl⟩ rfl hl.1 rfl (Nat.le_of_ble_eq_true rfl) dJ8_checkIndex_5 ⟨Nat.zero_le _, Nat.zero_le _⟩ (fun H locs V => W.eq (g2 := F0 m 8 ls [.int r2]) rfl ?_)
    refine lv_pop (pc := 8) hx hb dJ8_checkIndex_8 rfl ?_
    cases hf
    exact x_vret (pc := 9) X V hr dJ8_checkIndex_9
  · refine x_topr ha1 ?_
    replace hf := bs hf; obtain ⟨r4, hk_5, hf⟩ := hf
    refine x_callS0 (pc := 5) (As := [.int x0, .int x1, .ref a1]) (rest := []) X V (mJ6_checkIndex l D dA s0 hk_5) q827 q610 q131 q611 hsJ6_checkIndex ⟨Nat.le_of_ble_eq_true rfl, Nat.le_of_ble_eq_true rfl⟩ rfl hl.1 rfl (Nat.le_of_ble_eq_true rfl) dJ8_checkIndex_5 ⟨Nat.zero_le _, Nat.zero_le _⟩ (fun H locs V => W.eq (g2 := F0 m 8 ls [.int r4]) rfl ?_)
    refine lv_pop (pc := 8) hx hb dJ8_checkIndex_8 rfl ?_
    cases hf
    exact x_vret (pc := 9) X V hr dJ8_checkIndex_9
theorem mJ8_checkIndex (l : Launch) (D : va_G) (dA : Nat → ClassId) (s0 : Nat) {T : xT} {N : xT} {Z : Nat} {I : xI} {L : xL} {R : xR} {x0 : Int32} {x1 : Int32}  (hf : fJ8_checkIndex (sv dA) x0 x1 = some ()) : XMet l D dA s0 yJ8_checkIndex (ws_ yJ8_checkIndex cJ8_checkIndex 2 (none)) (1) (22) [.int x0, .int x1] T N Z I L R none T N Z I L R 0 0 :=
  x_start (own := RJ8) rfl (by decide) (Nat.le_of_ble_eq_true rfl) (lv := [(0, .int x0), (1, .int x1)]) rfl (fun p e s m below meth c ls X hr hini V hl => wJ8_checkIndex_e X hr hf V hl)
set_option maxHeartbeats 400000 in
set_option maxRecDepth 100000 in
theorem wJ9_charAt_e {p : Program} {l : Launch} {e : Env} {s : State} {m : MethodId} {args : Array Value} {below : List Frame} {meth : Method} {c : Code} {D : va_G} {dA : Nat → ClassId} {s0 : Nat} {T : xT} {N : xT} {Z : Nat} {I : xI} {L : xL} {R : xR} {H : Heap} {locs : List Loc} {ls : Array Slot} {x0 : Nat} {x1 : Int32} {ro : Int32} (X : Cx D dA s0 p m c cJ9_charAt 2 s args RJ9 meth) (hr : meth.sig.returnType = (some .char)) (hf : fJ9_charAt (sv dA) T N I x0 x1 = some ro) (V : Iv D dA s0 s T N Z I L R H locs) (hl : lv_has ls 2 [(0, .ref x0), (1, .int x1)]) : W p l e { frames := 2, cells := 0, slots := 0, locals := 43 } s m args below meth c H locs 0 0 (MQ below (xQ D dA s0 (some (.int ro)) T N Z I L R) args s 0 0 (fun q => s0 ≤ q)) (F0 m 0 ls []) := by
  have hx := X.1.1
  have hb := X.1.2.1
  unfold fJ9_charAt at hf
  refine lv_iload_n (pc := 0) hx hb dJ9_charAt_0 rfl (lv_at hl 1 rfl) ?_
  refine lv_aload_n (pc := 1) hx hb dJ9_charAt_1 rfl (lv_at hl 0 rfl) ?_
  replace hf := tg_s hf; obtain ⟨ht1, hf⟩ := hf
  refine x_alen7 (pc := 2) X V ht1 dJ9_charAt_2 ?_
  replace hf := bs hf; obtain ⟨_, hk_2, hf⟩ := hf
  refine x_callS0 (pc := 3) (As := [.int x1, .int (Int32.ofNat (N x0))]) (rest := []) X V (mJ8_checkIndex l D dA s0 hk_2) q822 q823 q135 q824 hsJ8_checkIndex ⟨Nat.le_of_ble_eq_true rfl, Nat.le_of_ble_eq_true rfl⟩ rfl hl.1 rfl (Nat.le_of_ble_eq_true rfl) dJ9_charAt_3 ⟨Nat.zero_le _, Nat.zero_le _⟩ (fun H locs V => W.eq (g2 := F0 m 6 ls []) rfl ?_)
  refine lv_aload_n (pc := 6) hx hb dJ9_charAt_6 rfl (lv_at hl 0 rfl) ?_
  refine lv_iload_n (pc := 7) hx hb dJ9_charAt_7 rfl (lv_at hl 1 rfl) ?_
  replace hf := rA_s hf; obtain ⟨j3, hjj3, htj3, hij3, hf⟩ := hf
  refine x_bald7 (pc := 8) X V htj3 hij3 hjj3 dJ9_charAt_8 ?_
  refine lv_sipush (pc := 9) (v := (ii 255)) hx hb dJ9_charAt_9 (by decide) ?_
  refine lv_iand (pc := 12) hx hb dJ9_charAt_12 ?_
  refine lv_i2c (pc := 13) hx hb dJ9_charAt_13 rfl ?_
  replace hf := chk_s hf; obtain ⟨hz4, hf⟩ := hf
  cases hf
  exact x_cret (pc := 14) X V hr hz4 dJ9_charAt_14
theorem mJ9_charAt (l : Launch) (D : va_G) (dA : Nat → ClassId) (s0 : Nat) {T : xT} {N : xT} {Z : Nat} {I : xI} {L : xL} {R : xR} {x0 : Nat} {x1 : Int32} {ro : Int32} (hf : fJ9_charAt (sv dA) T N I x0 x1 = some ro) : XMet l D dA s0 yJ9_charAt (ws_ yJ9_charAt cJ9_charAt 2 ((some .char))) (2) (43) [.ref x0, .int x1] T N Z I L R (some (.int ro)) T N Z I L R 0 0 :=
  x_start (own := RJ9) rfl (by decide) (Nat.le_of_ble_eq_true rfl) (lv := [(0, .ref x0), (1, .int x1)]) rfl (fun p e s m below meth c ls X hr hini V hl => wJ9_charAt_e X hr hf V hl)
set_option maxHeartbeats 400000 in
set_option maxRecDepth 100000 in
theorem wJ10_length_e {p : Program} {l : Launch} {e : Env} {s : State} {m : MethodId} {args : Array Value} {below : List Frame} {meth : Method} {c : Code} {D : va_G} {dA : Nat → ClassId} {s0 : Nat} {T : xT} {N : xT} {Z : Nat} {I : xI} {L : xL} {R : xR} {H : Heap} {locs : List Loc} {ls : Array Slot} {x0 : Nat} {ro : Int32} (X : Cx D dA s0 p m c cJ10_length 1 s args RJ10 meth) (hr : meth.sig.returnType = (some .int)) (hf : fJ10_length T N x0 = some ro) (V : Iv D dA s0 s T N Z I L R H locs) (hl : lv_has ls 1 [(0, .ref x0)]) : W p l e { frames := 0, cells := 0, slots := 0, locals := 0 } s m args below meth c H locs 0 0 (MQ below (xQ D dA s0 (some (.int ro)) T N Z I L R) args s 0 0 (fun q => s0 ≤ q)) (F0 m 0 ls []) := by
  have hx := X.1.1
  have hb := X.1.2.1
  unfold fJ10_length at hf
  refine lv_aload_n (pc := 0) hx hb dJ10_length_0 rfl (lv_at hl 0 rfl) ?_
  replace hf := tg_s hf; obtain ⟨ht1, hf⟩ := hf
  refine x_alen7 (pc := 1) X V ht1 dJ10_length_1 ?_
  refine lv_iconst (pc := 2) (v := (ii 1)) hx hb dJ10_length_2 (by decide) ?_
  refine lv_ishr (pc := 3) hx hb dJ10_length_3 ?_
  cases hf
  exact x_iret (pc := 4) X V hr dJ10_length_4
theorem mJ10_length (l : Launch) (D : va_G) (dA : Nat → ClassId) (s0 : Nat) {T : xT} {N : xT} {Z : Nat} {I : xI} {L : xL} {R : xR} {x0 : Nat} {ro : Int32} (hf : fJ10_length T N x0 = some ro) : XMet l D dA s0 yJ10_length (ws_ yJ10_length cJ10_length 1 ((some .int))) (0) (0) [.ref x0] T N Z I L R (some (.int ro)) T N Z I L R 0 0 :=
  x_start (own := RJ10) rfl (by decide) (Nat.le_of_ble_eq_true rfl) (lv := [(0, .ref x0)]) rfl (fun p e s m below meth c ls X hr hini V hl => wJ10_length_e X hr hf V hl)
set_option maxHeartbeats 400000 in
set_option maxRecDepth 100000 in
theorem wJ10_checkIndex_e {p : Program} {l : Launch} {e : Env} {s : State} {m : MethodId} {args : Array Value} {below : List Frame} {meth : Method} {c : Code} {D : va_G} {dA : Nat → ClassId} {s0 : Nat} {T : xT} {N : xT} {Z : Nat} {I : xI} {L : xL} {R : xR} {H : Heap} {locs : List Loc} {ls : Array Slot} {x0 : Int32} {x1 : Nat}  (X : Cx D dA s0 p m c cJ10_checkIndex 2 s args RJ10 meth) (hr : meth.sig.returnType = none) (hf : fJ10_checkIndex (sv dA) T N x0 x1 = some ()) (V : Iv D dA s0 s T N Z I L R H locs) (hl : lv_has ls 2 [(0, .int x0), (1, .ref x1)]) : W p l e { frames := 2, cells := 0, slots := 0, locals := 43 } s m args below meth c H locs 0 0 (MQ below (xQ D dA s0 none T N Z I L R) args s 0 0 (fun q => s0 ≤ q)) (F0 m 0 ls []) := by
  have hx := X.1.1
  have hb := X.1.2.1
  unfold fJ10_checkIndex at hf
  refine lv_iload_n (pc := 0) hx hb dJ10_checkIndex_0 rfl (lv_at hl 0 rfl) ?_
  refine lv_aload_n (pc := 1) hx hb dJ10_checkIndex_1 rfl (lv_at hl 1 rfl) ?_
  replace hf := bs hf; obtain ⟨r1, hk_2, hf⟩ := hf
  refine x_callS0 (pc := 2) (As := [.ref x1]) (rest := [.int x0]) X V (mJ10_length l D dA s0 hk_2) q834 q835 q137 q836 hsJ10_length ⟨Nat.le_of_ble_eq_true rfl, Nat.le_of_ble_eq_true rfl⟩ rfl hl.1 rfl (Nat.le_of_ble_eq_true rfl) dJ10_checkIndex_2 ⟨Nat.zero_le _, Nat.zero_le _⟩ (fun H locs V => W.eq (g2 := F0 m 5 ls [.int r1, .int x0]) rfl ?_)
  replace hf := bs hf; obtain ⟨_, hk_3, hf⟩ := hf
  refine x_callS0 (pc := 5) (As := [.int x0, .int r1]) (rest := []) X V (mJ8_checkIndex l D dA s0 hk_3) q837 q823 q135 q824 hsJ8_checkIndex ⟨Nat.le_of_ble_eq_true rfl, Nat.le_of_ble_eq_true rfl⟩ rfl hl.1 rfl (Nat.le_of_ble_eq_true rfl) dJ10_checkIndex_5 ⟨Nat.zero_le _, Nat.zero_le _⟩ (fun H locs V => W.eq (g2 := F0 m 8 ls []) rfl ?_)
  cases hf
  exact x_vret (pc := 8) X V hr dJ10_checkIndex_8
theorem mJ10_checkIndex (l : Launch) (D : va_G) (dA : Nat → ClassId) (s0 : Nat) {T : xT} {N : xT} {Z : Nat} {I : xI} {L : xL} {R : xR} {x0 : Int32} {x1 : Nat}  (hf : fJ10_checkIndex (sv dA) T N x0 x1 = some ()) : XMet l D dA s0 yJ10_checkIndex (ws_ yJ10_checkIndex cJ10_checkIndex 2 (none)) (2) (43) [.int x0, .ref x1] T N Z I L R none T N Z I L R 0 0 :=
  x_start (own := RJ10) rfl (by decide) (Nat.le_of_ble_eq_true rfl) (lv := [(0, .int x0), (1, .ref x1)]) rfl (fun p e s m below meth c ls X hr hini V hl => wJ10_checkIndex_e X hr hf V hl)
set_option maxHeartbeats 400000 in
set_option maxRecDepth 100000 in
theorem wJ10_getChar_e {p : Program} {l : Launch} {e : Env} {s : State} {m : MethodId} {args : Array Value} {below : List Frame} {meth : Method} {c : Code} {D : va_G} {dA : Nat → ClassId} {s0 : Nat} {T : xT} {N : xT} {Z : Nat} {I : xI} {L : xL} {R : xR} {H : Heap} {locs : List Loc} {ls : Array Slot} {x0 : Nat} {x1 : Int32} {ro : Int32} (X : Cx D dA s0 p m c cJ10_getChar 2 s args RJ10 meth) (hr : meth.sig.returnType = (some .char)) (hf : fJ10_getChar x0 x1 = some ro) (V : Iv D dA s0 s T N Z I L R H locs) (hl : lv_has ls 2 [(0, .ref x0), (1, .int x1)]) : W p l e { frames := 0, cells := 0, slots := 0, locals := 0 } s m args below meth c H locs 0 0 (MQ below (xQ D dA s0 (some (.int ro)) T N Z I L R) args s 0 0 (fun q => s0 ≤ q)) (F0 m 0 ls []) := by
  have hx := X.1.1
  have hb := X.1.2.1
  unfold fJ10_getChar at hf
  cases hf
theorem mJ10_getChar (l : Launch) (D : va_G) (dA : Nat → ClassId) (s0 : Nat) {T : xT} {N : xT} {Z : Nat} {I : xI} {L : xL} {R : xR} {x0 : Nat} {x1 : Int32} {ro : Int32} (hf : fJ10_getChar x0 x1 = some ro) : XMet l D dA s0 yJ10_getChar (ws_ yJ10_getChar cJ10_getChar 2 ((some .char))) (0) (0) [.ref x0, .int x1] T N Z I L R (some (.int ro)) T N Z I L R 0 0 :=
  x_start (own := RJ10) rfl (by decide) (Nat.le_of_ble_eq_true rfl) (lv := [(0, .ref x0), (1, .int x1)]) rfl (fun p e s m below meth c ls X hr hini V hl => wJ10_getChar_e X hr hf V hl)
set_option maxHeartbeats 400000 in
set_option maxRecDepth 100000 in
theorem wJ10_charAt_e {p : Program} {l : Launch} {e : Env} {s : State} {m : MethodId} {args : Array Value} {below : List Frame} {meth : Method} {c : Code} {D : va_G} {dA : Nat → ClassId} {s0 : Nat} {T : xT} {N : xT} {Z : Nat} {I : xI} {L : xL} {R : xR} {H : Heap} {locs : List Loc} {ls : Array Slot} {x0 : Nat} {x1 : Int32} {ro : Int32} (X : Cx D dA s0 p m c cJ10_charAt 2 s args RJ10 meth) (hr : meth.sig.returnType = (some .char)) (hf : fJ10_charAt (sv dA) T N x0 x1 = some ro) (V : Iv D dA s0 s T N Z I L R H locs) (hl : lv_has ls 2 [(0, .ref x0), (1, .int x1)]) : W p l e { frames := 3, cells := 0, slots := 0, locals := 64 } s m args below meth c H locs 0 0 (MQ below (xQ D dA s0 (some (.int ro)) T N Z I L R) args s 0 0 (fun q => s0 ≤ q)) (F0 m 0 ls []) := by
  have hx := X.1.1
  have hb := X.1.2.1
  unfold fJ10_charAt at hf
  refine lv_iload_n (pc := 0) hx hb dJ10_charAt_0 rfl (lv_at hl 1 rfl) ?_
  refine lv_aload_n (pc := 1) hx hb dJ10_charAt_1 rfl (lv_at hl 0 rfl) ?_
  replace hf := bs hf; obtain ⟨_, hk_1, hf⟩ := hf
  refine x_callS0 (pc := 2) (As := [.int x1, .ref x0]) (rest := []) X V (mJ10_checkIndex l D dA s0 hk_1) q831 q832 q137 q833 hsJ10_checkIndex ⟨Nat.le_of_ble_eq_true rfl, Nat.le_of_ble_eq_true rfl⟩ rfl hl.1 rfl (Nat.le_of_ble_eq_true rfl) dJ10_charAt_2 ⟨Nat.zero_le _, Nat.zero_le _⟩ (fun H locs V => W.eq (g2 := F0 m 5 ls []) rfl ?_)
  refine lv_aload_n (pc := 5) hx hb dJ10_charAt_5 rfl (lv_at hl 0 rfl) ?_
  refine lv_iload_n (pc := 6) hx hb dJ10_charAt_6 rfl (lv_at hl 1 rfl) ?_
  replace hf := bs hf; obtain ⟨r2, hk_3, hf⟩ := hf
  refine x_callS0 (pc := 7) (As := [.ref x0, .int x1]) (rest := []) X V (mJ10_getChar l D dA s0 hk_3) q838 q839 q137 q840 hsJ10_getChar ⟨Nat.le_of_ble_eq_true rfl, Nat.le_of_ble_eq_true rfl⟩ rfl hl.1 rfl (Nat.le_of_ble_eq_true rfl) dJ10_charAt_7 ⟨Nat.zero_le _, Nat.zero_le _⟩ (fun H locs V => W.eq (g2 := F0 m 10 ls [.int r2]) rfl ?_)
  replace hf := chk_s hf; obtain ⟨hz4, hf⟩ := hf
  cases hf
  exact x_cret (pc := 10) X V hr hz4 dJ10_charAt_10
theorem mJ10_charAt (l : Launch) (D : va_G) (dA : Nat → ClassId) (s0 : Nat) {T : xT} {N : xT} {Z : Nat} {I : xI} {L : xL} {R : xR} {x0 : Nat} {x1 : Int32} {ro : Int32} (hf : fJ10_charAt (sv dA) T N x0 x1 = some ro) : XMet l D dA s0 yJ10_charAt (ws_ yJ10_charAt cJ10_charAt 2 ((some .char))) (3) (64) [.ref x0, .int x1] T N Z I L R (some (.int ro)) T N Z I L R 0 0 :=
  x_start (own := RJ10) rfl (by decide) (Nat.le_of_ble_eq_true rfl) (lv := [(0, .ref x0), (1, .int x1)]) rfl (fun p e s m below meth c ls X hr hini V hl => wJ10_charAt_e X hr hf V hl)
set_option maxHeartbeats 400000 in
set_option maxRecDepth 100000 in
theorem wJ8_charAt_e {p : Program} {l : Launch} {e : Env} {s : State} {m : MethodId} {args : Array Value} {below : List Frame} {meth : Method} {c : Code} {D : va_G} {dA : Nat → ClassId} {s0 : Nat} {T : xT} {N : xT} {Z : Nat} {I : xI} {L : xL} {R : xR} {H : Heap} {locs : List Loc} {ls : Array Slot} {x0 : Nat} {x1 : Int32} {ro : Int32} (X : Cx D dA s0 p m c cJ8_charAt 2 s args RJ8 meth) (hr : meth.sig.returnType = (some .char)) (hf : fJ8_charAt (sv dA) T N I R x0 x1 = some ro) (V : Iv D dA s0 s T N Z I L R H locs) (hl : lv_has ls 2 [(0, .ref x0), (1, .int x1)]) : W p l e { frames := 4, cells := 0, slots := 0, locals := 85 } s m args below meth c H locs 0 0 (MQ below (xQ D dA s0 (some (.int ro)) T N Z I L R) args s 0 0 (fun q => s0 ≤ q)) (F0 m 0 ls []) := by
  have hx := X.1.1
  have hb := X.1.2.1
  unfold fJ8_charAt at hf
  refine lv_aload_n (pc := 0) hx hb dJ8_charAt_0 rfl (lv_at hl 0 rfl) ?_
  replace hf := tg_s hf; obtain ⟨ht3, hf⟩ := hf
  replace hf := bs hf; obtain ⟨r1, hk_2, hf⟩ := hf
  refine x_callVS0 (pc := 1) (As := []) (rest := []) X V (mJ8_isLatin1 l D dA s0 hk_2) ht3 q815 q816 q817 q135 q818 ⟨rfl, hsJ8_isLatin1⟩ ⟨Nat.le_of_ble_eq_true rfl, Nat.le_of_ble_eq_true rfl⟩ rfl hl.1 rfl (Nat.le_of_ble_eq_true rfl) dJ8_charAt_1 ⟨Nat.zero_le _, Nat.zero_le _⟩ (fun H locs V => W.eq (g2 := F0 m 4 ls [.int r1]) rfl ?_)
  refine lv_if_eq (pc := 4) (tgt := 16) hx hb dJ8_charAt_4 (by decide) (fun c4 => ?_) (fun c4 => ?_)
  · replace hf := if_t hf c4
    refine lv_aload_n (pc := 16) hx hb dJ8_charAt_16 rfl (lv_at hl 0 rfl) ?_
    replace hf := bs hf; obtain ⟨a5, ha5, hf⟩ := hf
    refine x_strV (pc := 17) X V ht3 q2266 dJ8_charAt_17 ?_
    refine x_topr ha5 ?_
    refine lv_iload_n (pc := 20) hx hb dJ8_charAt_20 rfl (lv_at hl 1 rfl) ?_
    replace hf := bs hf; obtain ⟨r6, hk_7, hf⟩ := hf
    refine x_callS0 (pc := 21) (As := [.ref a5, .int x1]) (rest := []) X V (mJ10_charAt l D dA s0 hk_7) q828 q829 q137 q830 hsJ10_charAt ⟨Nat.le_of_ble_eq_true rfl, Nat.le_of_ble_eq_true rfl⟩ rfl hl.1 rfl (Nat.le_of_ble_eq_true rfl) dJ8_charAt_21 ⟨Nat.zero_le _, Nat.zero_le _⟩ (fun H locs V => W.eq (g2 := F0 m 24 ls [.int r6]) rfl ?_)
    replace hf := chk_s hf; obtain ⟨hz8, hf⟩ := hf
    cases hf
    exact x_cret (pc := 24) X V hr hz8 dJ8_charAt_24
  · replace hf := if_f hf c4
    refine lv_aload_n (pc := 7) hx hb dJ8_charAt_7 rfl (lv_at hl 0 rfl) ?_
    replace hf := bs hf; obtain ⟨a9, ha9, hf⟩ := hf
    refine x_strV (pc := 8) X V ht3 q2266 dJ8_charAt_8 ?_
    refine x_topr ha9 ?_
    refine lv_iload_n (pc := 11) hx hb dJ8_charAt_11 rfl (lv_at hl 1 rfl) ?_
    replace hf := bs hf; obtain ⟨r10, hk_11, hf⟩ := hf
    refine x_callS0 (pc := 12) (As := [.ref a9, .int x1]) (rest := []) X V (mJ9_charAt l D dA s0 hk_11) q819 q820 q136 q821 hsJ9_charAt ⟨Nat.le_of_ble_eq_true rfl, Nat.le_of_ble_eq_true rfl⟩ rfl hl.1 rfl (Nat.le_of_ble_eq_true rfl) dJ8_charAt_12 ⟨Nat.zero_le _, Nat.zero_le _⟩ (fun H locs V => W.eq (g2 := F0 m 15 ls [.int r10]) rfl ?_)
    replace hf := chk_s hf; obtain ⟨hz12, hf⟩ := hf
    cases hf
    exact x_cret (pc := 15) X V hr hz12 dJ8_charAt_15
theorem mJ8_charAt (l : Launch) (D : va_G) (dA : Nat → ClassId) (s0 : Nat) {T : xT} {N : xT} {Z : Nat} {I : xI} {L : xL} {R : xR} {x0 : Nat} {x1 : Int32} {ro : Int32} (hf : fJ8_charAt (sv dA) T N I R x0 x1 = some ro) : XMet l D dA s0 yJ8_charAt (ws_ yJ8_charAt cJ8_charAt 2 ((some .char))) (4) (85) [.ref x0, .int x1] T N Z I L R (some (.int ro)) T N Z I L R 0 0 :=
  x_start (own := RJ8) rfl (by decide) (Nat.le_of_ble_eq_true rfl) (lv := [(0, .ref x0), (1, .int x1)]) rfl (fun p e s m below meth c ls X hr hini V hl => wJ8_charAt_e X hr hf V hl)
set_option maxHeartbeats 400000 in
set_option maxRecDepth 100000 in
theorem wX6_is_rX7_b20 {nf : Nat} {p : Program} {l : Launch} {e : Env} {s : State} {m : MethodId} {args : Array Value} {below : List Frame} {meth : Method} {c : Code} {D : va_G} {dA : Nat → ClassId} {s0 : Nat} {T : xT} {N : xT} {Z : Nat} {I : xI} {L : xL} {R : xR}  {ro : Int32} (X : Cx D dA s0 p m c cX6_is 3 s args RX6 meth) (hr : meth.sig.returnType = (some .boolean))   (k : Nat) : ∀ {x0 : Nat} {x1 : Nat} {x2 : Int32} {H : Heap} {locs : List Loc} {ls : Array Slot} , fX6_is_rX7_b20 nf (sv dA) T N I R k x0 x1 x2 = some ro → Iv D dA s0 s T N Z I L R H locs → lv_has ls 3 [(0, .ref x0), (1, .ref x1), (2, .int x2)] → W p l e { frames := 5, cells := 0, slots := 0, locals := 106 } s m args below meth c H locs 0 0 (MQ below (xQ D dA s0 (some (.int ro)) T N Z I L R) args s 0 0 (fun q => s0 ≤ q)) (F0 m 20 ls []) := by
  have hx := X.1.1
  have hb := X.1.2.1
  induction k with
  | zero =>
    intro x0 x1 x2 H locs ls hf V hl
    exact absurd (show none = some _ from hf) (fun q => nomatch q)
  | succ k ih =>
    intro x0 x1 x2 H locs ls hf V hl
    rw [fX6_is_rX7_b20] at hf
    refine lv_iload_n (pc := 20) hx hb dX6_is_20 rfl (lv_at hl 2 rfl) ?_
    refine lv_aload_n (pc := 21) hx hb dX6_is_21 rfl (lv_at hl 1 rfl) ?_
    replace hf := tg_s hf; obtain ⟨ht3, hf⟩ := hf
    replace hf := bs hf; obtain ⟨r1, hk_2, hf⟩ := hf
    refine x_callVS0 (pc := 22) (As := []) (rest := [.int x2]) X V (mJ8_length l D dA s0 hk_2) ht3 q801 q802 q803 q135 q804 ⟨rfl, hsJ8_length⟩ ⟨Nat.le_of_ble_eq_true rfl, Nat.le_of_ble_eq_true rfl⟩ rfl hl.1 rfl (Nat.le_of_ble_eq_true rfl) dX6_is_22 ⟨Nat.zero_le _, Nat.zero_le _⟩ (fun H locs V => W.eq (g2 := F0 m 25 ls [.int r1, .int x2]) rfl ?_)
    refine lv_icmp_ge (pc := 25) (tgt := 55) hx hb dX6_is_25 (by decide) (fun c4 => ?_) (fun c4 => ?_)
    · replace hf := if_t hf c4
      refine lv_iconst (pc := 55) (v := (ii 1)) hx hb dX6_is_55 (by decide) ?_
      cases hf
      exact x_zret (pc := 56) X V hr (by decide) dX6_is_56
    · replace hf := if_f hf c4
      refine lv_aload_n (pc := 28) hx hb dX6_is_28 rfl (lv_at hl 0 rfl) ?_
      replace hf := tg_s hf; obtain ⟨ht5, hf⟩ := hf
      replace hf := bs hf; obtain ⟨a6, ha6, hf⟩ := hf
      refine x_get (pc := 29) X V okX7 ht5 0 (by decide) q741 (v := va_rf (R x0 0)) rfl dX6_is_29 ?_
      refine x_topr ha6 ?_
      refine lv_aload_n (pc := 32) hx hb dX6_is_32 rfl (lv_at hl 0 rfl) ?_
      refine x_get (pc := 33) X V okX7 ht5 3 (by decide) q744 (v := .int (I x0 3)) rfl dX6_is_33 ?_
      refine lv_iload_n (pc := 36) hx hb dX6_is_36 rfl (lv_at hl 2 rfl) ?_
      refine lv_iadd (pc := 37) hx hb dX6_is_37 ?_
      replace hf := rA_s hf; obtain ⟨j7, hjj7, htj7, hij7, hf⟩ := hf
      refine x_bald (pc := 38) X V htj7 hij7 hjj7 dX6_is_38 ?_
      refine lv_aload_n (pc := 39) hx hb dX6_is_39 rfl (lv_at hl 1 rfl) ?_
      refine lv_iload_n (pc := 40) hx hb dX6_is_40 rfl (lv_at hl 2 rfl) ?_
      replace hf := bs hf; obtain ⟨r8, hk_9, hf⟩ := hf
      refine x_callVS0 (pc := 41) (As := [.int x2]) (rest := [.int (I a6 j7)]) X V (mJ8_charAt l D dA s0 hk_9) ht3 q811 q812 q813 q135 q814 ⟨rfl, hsJ8_charAt⟩ ⟨Nat.le_of_ble_eq_true rfl, Nat.le_of_ble_eq_true rfl⟩ rfl hl.1 rfl (Nat.le_of_ble_eq_true rfl) dX6_is_41 ⟨Nat.zero_le _, Nat.zero_le _⟩ (fun H locs V => W.eq (g2 := F0 m 44 ls [.int r8, .int (I a6 j7)]) rfl ?_)
      refine lv_icmp_eq (pc := 44) (tgt := 49) hx hb dX6_is_44 (by decide) (fun c10 => ?_) (fun c10 => ?_)
      · replace hf := if_t hf c10
        replace hf := nm_s hf; obtain ⟨u11, hu11, hf⟩ := hf
        refine lv_iinc (pc := 49) (v := u11) (lv' := [(2, .int u11), (0, .ref x0), (1, .ref x1)]) hx hb dX6_is_49 hl (k := 2) rfl (by rw [hu11]; rfl) (by decide) rfl (fun ls hl => ?_)
        refine lv_goto (pc := 52) (tgt := 20) hx hb dX6_is_52 (by decide) ?_
        exact ih hf V (lv_sub hl [1, 2, 0] rfl)
      · replace hf := if_f hf c10
        refine lv_iconst (pc := 47) (v := (ii 0)) hx hb dX6_is_47 (by decide) ?_
        cases hf
        exact x_zret (pc := 48) X V hr (by decide) dX6_is_48
set_option maxHeartbeats 400000 in
set_option maxRecDepth 100000 in
theorem wX6_is_rX7_e {nf : Nat} {p : Program} {l : Launch} {e : Env} {s : State} {m : MethodId} {args : Array Value} {below : List Frame} {meth : Method} {c : Code} {D : va_G} {dA : Nat → ClassId} {s0 : Nat} {T : xT} {N : xT} {Z : Nat} {I : xI} {L : xL} {R : xR} {H : Heap} {locs : List Loc} {ls : Array Slot} {x0 : Nat} {x1 : Nat} {ro : Int32} (X : Cx D dA s0 p m c cX6_is 3 s args RX6 meth) (hr : meth.sig.returnType = (some .boolean)) (hf : fX6_is_rX7 nf (sv dA) T N I R x0 x1 = some ro) (V : Iv D dA s0 s T N Z I L R H locs) (hl : lv_has ls 3 [(0, .ref x0), (1, .ref x1)]) : W p l e { frames := 5, cells := 0, slots := 0, locals := 106 } s m args below meth c H locs 0 0 (MQ below (xQ D dA s0 (some (.int ro)) T N Z I L R) args s 0 0 (fun q => s0 ≤ q)) (F0 m 0 ls []) := by
  have hx := X.1.1
  have hb := X.1.2.1
  unfold fX6_is_rX7 at hf
  refine lv_aload_n (pc := 0) hx hb dX6_is_0 rfl (lv_at hl 0 rfl) ?_
  replace hf := tg_s hf; obtain ⟨ht1, hf⟩ := hf
  refine x_get (pc := 1) X V okX7 ht1 4 (by decide) q745 (v := .int (I x0 4)) rfl dX6_is_1 ?_
  refine lv_aload_n (pc := 4) hx hb dX6_is_4 rfl (lv_at hl 0 rfl) ?_
  refine x_get (pc := 5) X V okX7 ht1 3 (by decide) q744 (v := .int (I x0 3)) rfl dX6_is_5 ?_
  refine lv_isub (pc := 8) hx hb dX6_is_8 ?_
  refine lv_aload_n (pc := 9) hx hb dX6_is_9 rfl (lv_at hl 1 rfl) ?_
  replace hf := tg_s hf; obtain ⟨ht4, hf⟩ := hf
  replace hf := bs hf; obtain ⟨r2, hk_3, hf⟩ := hf
  refine x_callVS0 (pc := 10) (As := []) (rest := [.int ((I x0 4) - (I x0 3))]) X V (mJ8_length l D dA s0 hk_3) ht4 q801 q802 q803 q135 q804 ⟨rfl, hsJ8_length⟩ ⟨Nat.le_of_ble_eq_true rfl, Nat.le_of_ble_eq_true rfl⟩ rfl hl.1 rfl (Nat.le_of_ble_eq_true rfl) dX6_is_10 ⟨Nat.zero_le _, Nat.zero_le _⟩ (fun H locs V => W.eq (g2 := F0 m 13 ls [.int r2, .int ((I x0 4) - (I x0 3))]) rfl ?_)
  refine lv_icmp_eq (pc := 13) (tgt := 18) hx hb dX6_is_13 (by decide) (fun c5 => ?_) (fun c5 => ?_)
  · replace hf := if_t hf c5
    refine lv_iconst (pc := 18) (v := (ii 0)) hx hb dX6_is_18 (by decide) ?_
    refine lv_istore_n (pc := 19) (lv' := [(2, .int (ii 0)), (0, .ref x0), (1, .ref x1)]) hx hb dX6_is_19 rfl hl (by decide) rfl (fun ls hl => ?_)
    exact wX6_is_rX7_b20 X hr nf hf V (lv_sub hl [1, 2, 0] rfl)
  · replace hf := if_f hf c5
    refine lv_iconst (pc := 16) (v := (ii 0)) hx hb dX6_is_16 (by decide) ?_
    cases hf
    exact x_zret (pc := 17) X V hr (by decide) dX6_is_17
theorem mX6_is_rX7 {nf : Nat} (l : Launch) (D : va_G) (dA : Nat → ClassId) (s0 : Nat) {T : xT} {N : xT} {Z : Nat} {I : xI} {L : xL} {R : xR} {x0 : Nat} {x1 : Nat} {ro : Int32} (hf : fX6_is_rX7 nf (sv dA) T N I R x0 x1 = some ro) : XMet l D dA s0 yX6_is (ws_ yX6_is cX6_is 3 ((some .boolean))) (5) (106) [.ref x0, .ref x1] T N Z I L R (some (.int ro)) T N Z I L R 0 0 :=
  x_start (own := RX6) rfl (by decide) (Nat.le_of_ble_eq_true rfl) (lv := [(0, .ref x0), (1, .ref x1)]) rfl (fun p e s m below meth c ls X hr hini V hl => wX6_is_rX7_e X hr hf V hl)
set_option maxHeartbeats 400000 in
set_option maxRecDepth 100000 in
theorem wJ3_init_2_rX8_n12_e {p : Program} {l : Launch} {e : Env} {s : State} {m : MethodId} {args : Array Value} {below : List Frame} {meth : Method} {c : Code} {D : va_G} {dA : Nat → ClassId} {s0 : Nat} {T : xT} {N : xT} {Z : Nat} {I : xI} {L : xL} {R : xR} {H : Heap} {locs : List Loc} {ls : Array Slot} {x0 : Nat} {x3 : Int32} {x4 : Int32} {Ro : xR} (X : Cx D dA s0 p m c cJ3_init_2 5 s args RJ3 meth) (hr : meth.sig.returnType = none) (hini : meth.name = "<init>") (hf : fJ3_init_2_rX8_n12 (sv dA) T R x0 x3 x4 = some Ro) (V : Iv D dA s0 s T N Z I L R H locs) (hl : lv_has ls 5 [(0, .ref x0), (1, .null), (2, .null), (3, .int x3), (4, .int x4)]) : W p l e { frames := 1, cells := 0, slots := 0, locals := 20 } s m args below meth c H locs 0 0 (MQ below (xQ D dA s0 none T N Z I L Ro) args s 0 0 (fun q => s0 ≤ q)) (F0 m 0 ls []) := by
  have hx := X.1.1
  have hb := X.1.2.1
  unfold fJ3_init_2_rX8_n12 at hf
  refine lv_aload_n (pc := 0) hx hb dJ3_init_2_0 rfl (lv_at hl 0 rfl) ?_
  refine x_objInit (pc := 1) X q311 q161 q162 hl.1 (Nat.le_of_ble_eq_true rfl) (Nat.le_of_ble_eq_true rfl) dJ3_init_2_1 ?_
  refine lv_aload_n (pc := 4) hx hb dJ3_init_2_4 rfl (lv_at hl 0 rfl) ?_
  refine lv_aload_n (pc := 5) hx hb dJ3_init_2_5 rfl (lv_at hl 0 rfl) ?_
  replace hf := tg_s hf; obtain ⟨ht1, hf⟩ := hf
  replace hf := nm_s hf; obtain ⟨R2, hR2, hf⟩ := hf
  refine x_putr (pc := 6) X V okX8 (by decide) ht1 0 (by decide) q337 (Or.inl rfl) hR2 (fun _ _ _ => rfl) (v := .ref x0) rfl rfl rfl dJ3_init_2_6 (fun H locs V => ?_)
  refine lv_aload_n (pc := 9) hx hb dJ3_init_2_9 rfl (lv_at hl 0 rfl) ?_
  refine x_gets0 (pc := 10) X V q312 dJ3_init_2_10 ?_
  replace hf := nm_s hf; obtain ⟨R3, hR3, hf⟩ := hf
  refine x_putr (pc := 13) X V okX8 (by decide) ht1 1 (by decide) q338 (Or.inl rfl) hR3 (fun _ _ _ => rfl)  rfl (rf_n (by rfl)) (rf_f (by rfl)) dJ3_init_2_13 (fun H locs V => ?_)
  refine lv_aload_n (pc := 16) hx hb dJ3_init_2_16 rfl (lv_at hl 0 rfl) ?_
  refine x_gets1 (pc := 17) X V q314 dJ3_init_2_17 ?_
  replace hf := nm_s hf; obtain ⟨R4, hR4, hf⟩ := hf
  refine x_putr (pc := 20) X V okX8 (by decide) ht1 2 (by decide) q339 (Or.inl rfl) hR4 (fun _ _ _ => rfl)  rfl (rf_n (by rfl)) (rf_f (by rfl)) dJ3_init_2_20 (fun H locs V => ?_)
  refine lv_iload (pc := 23) hx hb dJ3_init_2_23 (lv_at hl 4 rfl) ?_
  refine lv_if_eq (pc := 25) (tgt := 36) hx hb dJ3_init_2_25 (by decide) (fun c5 => ?_) (fun c5 => ?_)
  · replace hf := if_t hf c5
    refine lv_aload_n (pc := 36) hx hb dJ3_init_2_36 rfl (lv_at hl 0 rfl) ?_
    refine lv_null (pc := 37) hx hb dJ3_init_2_37 ?_
    replace hf := nm_s hf; obtain ⟨R6, hR6, hf⟩ := hf
    refine x_putr (pc := 38) X V okX8 (by decide) ht1 1 (by decide) q338 (Or.inl rfl) hR6 (fun _ _ _ => rfl) (v := .null) rfl rfl rfl dJ3_init_2_38 (fun H locs V => ?_)
    refine lv_aload_n (pc := 41) hx hb dJ3_init_2_41 rfl (lv_at hl 0 rfl) ?_
    refine lv_aload_nN (pc := 42) hx hb dJ3_init_2_42 rfl (lv_at hl 1 rfl) ?_
    replace hf := nm_s hf; obtain ⟨R7, hR7, hf⟩ := hf
    refine x_putr (pc := 43) X V okX8 (by decide) ht1 3 (by decide) q336 (Or.inl rfl) hR7 (fun _ _ _ => rfl) (v := .null) rfl rfl rfl dJ3_init_2_43 (fun H locs V => ?_)
    refine lv_aload_n (pc := 46) hx hb dJ3_init_2_46 rfl (lv_at hl 0 rfl) ?_
    refine lv_aload_nN (pc := 47) hx hb dJ3_init_2_47 rfl (lv_at hl 2 rfl) ?_
    replace hf := nm_s hf; obtain ⟨R8, hR8, hf⟩ := hf
    refine x_putr (pc := 48) X V okX8 (by decide) ht1 0 (by decide) q337 (Or.inl rfl) hR8 (fun _ _ _ => rfl) (v := .null) rfl rfl rfl dJ3_init_2_48 (fun H locs V => ?_)
    refine lv_iload_n (pc := 51) hx hb dJ3_init_2_51 rfl (lv_at hl 3 rfl) ?_
    refine lv_if_ne (pc := 52) (tgt := 60) hx hb dJ3_init_2_52 (by decide) (fun c9 => ?_) (fun c9 => ?_)
    · replace hf := if_f hf c9
      cases hf
      exact x_vret (pc := 60) X V hr dJ3_init_2_60
    · replace hf := if_t hf c9
      refine lv_aload_n (pc := 55) hx hb dJ3_init_2_55 rfl (lv_at hl 0 rfl) ?_
      refine lv_null (pc := 56) hx hb dJ3_init_2_56 ?_
      replace hf := nm_s hf; obtain ⟨R10, hR10, hf⟩ := hf
      refine x_putr (pc := 57) X V okX8 (by decide) ht1 2 (by decide) q339 (Or.inl rfl) hR10 (fun _ _ _ => rfl) (v := .null) rfl rfl rfl dJ3_init_2_57 (fun H locs V => ?_)
      cases hf
      exact x_vret (pc := 60) X V hr dJ3_init_2_60
  · replace hf := if_f hf c5
    refine lv_aload_n (pc := 28) hx hb dJ3_init_2_28 rfl (lv_at hl 0 rfl) ?_
    cases hf
theorem mJ3_init_2_rX8_n12 (l : Launch) (D : va_G) (dA : Nat → ClassId) (s0 : Nat) {T : xT} {N : xT} {Z : Nat} {I : xI} {L : xL} {R : xR} {x0 : Nat} {x3 : Int32} {x4 : Int32} {Ro : xR} (hf : fJ3_init_2_rX8_n12 (sv dA) T R x0 x3 x4 = some Ro) : XMet l D dA s0 yJ3_init_2 (ws_ yJ3_init_2 cJ3_init_2 5 (none)) (1) (20) [.ref x0, .null, .null, .int x3, .int x4] T N Z I L R none T N Z I L Ro 0 0 :=
  x_start (own := RJ3) rfl (by decide) (Nat.le_of_ble_eq_true rfl) (lv := [(0, .ref x0), (1, .null), (2, .null), (3, .int x3), (4, .int x4)]) rfl (fun p e s m below meth c ls X hr hini V hl => wJ3_init_2_rX8_n12_e X hr hini hf V hl)
set_option maxHeartbeats 400000 in
set_option maxRecDepth 100000 in
theorem wJ4_init_rX8_n12_e {p : Program} {l : Launch} {e : Env} {s : State} {m : MethodId} {args : Array Value} {below : List Frame} {meth : Method} {c : Code} {D : va_G} {dA : Nat → ClassId} {s0 : Nat} {T : xT} {N : xT} {Z : Nat} {I : xI} {L : xL} {R : xR} {H : Heap} {locs : List Loc} {ls : Array Slot} {x0 : Nat} {x3 : Int32} {x4 : Int32} {Ro : xR} (X : Cx D dA s0 p m c cJ4_init 5 s args RJ4 meth) (hr : meth.sig.returnType = none) (hini : meth.name = "<init>") (hf : fJ4_init_rX8_n12 (sv dA) T R x0 x3 x4 = some Ro) (V : Iv D dA s0 s T N Z I L R H locs) (hl : lv_has ls 5 [(0, .ref x0), (1, .null), (2, .null), (3, .int x3), (4, .int x4)]) : W p l e { frames := 2, cells := 0, slots := 0, locals := 44 } s m args below meth c H locs 0 0 (MQ below (xQ D dA s0 none T N Z I L Ro) args s 0 0 (fun q => s0 ≤ q)) (F0 m 0 ls []) := by
  have hx := X.1.1
  have hb := X.1.2.1
  unfold fJ4_init_rX8_n12 at hf
  refine lv_aload_n (pc := 0) hx hb dJ4_init_0 rfl (lv_at hl 0 rfl) ?_
  refine lv_aload_nN (pc := 1) hx hb dJ4_init_1 rfl (lv_at hl 1 rfl) ?_
  refine lv_aload_nN (pc := 2) hx hb dJ4_init_2 rfl (lv_at hl 2 rfl) ?_
  refine lv_iload_n (pc := 3) hx hb dJ4_init_3 rfl (lv_at hl 3 rfl) ?_
  refine lv_iload (pc := 4) hx hb dJ4_init_4 (lv_at hl 4 rfl) ?_
  replace hf := bs hf; obtain ⟨R1, hk_2, hf⟩ := hf
  refine x_callI0 (pc := 6) (As := [.null, .null, .int x3, .int x4]) (rest := []) X V (mJ3_init_2_rX8_n12 l D dA s0 hk_2) q332 q333 q126 q334 rfl hsJ3_init_2_rX8_n12 ⟨Nat.le_of_ble_eq_true rfl, Nat.le_of_ble_eq_true rfl⟩ rfl hl.1 rfl (Nat.le_of_ble_eq_true rfl) dJ4_init_6 ⟨Nat.zero_le _, Nat.zero_le _⟩ (fun H locs V => W.eq (g2 := F0 m 9 ls []) rfl ?_)
  cases hf
  exact x_vret (pc := 9) X V hr dJ4_init_9
theorem mJ4_init_rX8_n12 (l : Launch) (D : va_G) (dA : Nat → ClassId) (s0 : Nat) {T : xT} {N : xT} {Z : Nat} {I : xI} {L : xL} {R : xR} {x0 : Nat} {x3 : Int32} {x4 : Int32} {Ro : xR} (hf : fJ4_init_rX8_n12 (sv dA) T R x0 x3 x4 = some Ro) : XMet l D dA s0 yJ4_init (ws_ yJ4_init cJ4_init 5 (none)) (2) (44) [.ref x0, .null, .null, .int x3, .int x4] T N Z I L R none T N Z I L Ro 0 0 :=
  x_start (own := RJ4) rfl (by decide) (Nat.le_of_ble_eq_true rfl) (lv := [(0, .ref x0), (1, .null), (2, .null), (3, .int x3), (4, .int x4)]) rfl (fun p e s m below meth c ls X hr hini V hl => wJ4_init_rX8_n12_e X hr hini hf V hl)
set_option maxHeartbeats 400000 in
set_option maxRecDepth 100000 in
theorem wX8_init_e {p : Program} {l : Launch} {e : Env} {s : State} {m : MethodId} {args : Array Value} {below : List Frame} {meth : Method} {c : Code} {D : va_G} {dA : Nat → ClassId} {s0 : Nat} {T : xT} {N : xT} {Z : Nat} {I : xI} {L : xL} {R : xR} {H : Heap} {locs : List Loc} {ls : Array Slot} {x0 : Nat} {x1 : Int32} {Io : xI} {Ro : xR} (X : Cx D dA s0 p m c cX8_init 2 s args RX8 meth) (hr : meth.sig.returnType = none) (hini : meth.name = "<init>") (hf : fX8_init (sv dA) T I R x0 x1 = some (Io, Ro)) (V : Iv D dA s0 s T N Z I L R H locs) (hl : lv_has ls 2 [(0, .ref x0), (1, .int x1)]) : W p l e { frames := 3, cells := 0, slots := 0, locals := 68 } s m args below meth c H locs 0 0 (MQ below (xQ D dA s0 none T N Z Io L Ro) args s 0 0 (fun q => s0 ≤ q)) (F0 m 0 ls []) := by
  have hx := X.1.1
  have hb := X.1.2.1
  unfold fX8_init at hf
  refine lv_aload_n (pc := 0) hx hb dX8_init_0 rfl (lv_at hl 0 rfl) ?_
  refine lv_null (pc := 1) hx hb dX8_init_1 ?_
  refine lv_null (pc := 2) hx hb dX8_init_2 ?_
  refine lv_iconst (pc := 3) (v := (ii 0)) hx hb dX8_init_3 (by decide) ?_
  refine lv_iconst (pc := 4) (v := (ii 0)) hx hb dX8_init_4 (by decide) ?_
  replace hf := bs hf; obtain ⟨R1, hk_2, hf⟩ := hf
  refine x_callI0 (pc := 5) (As := [.null, .null, .int (ii 0), .int (ii 0)]) (rest := []) X V (mJ4_init_rX8_n12 l D dA s0 hk_2) q867 q330 q127 q331 rfl hsJ4_init_rX8_n12 ⟨Nat.le_of_ble_eq_true rfl, Nat.le_of_ble_eq_true rfl⟩ rfl hl.1 rfl (Nat.le_of_ble_eq_true rfl) dX8_init_5 ⟨Nat.zero_le _, Nat.zero_le _⟩ (fun H locs V => W.eq (g2 := F0 m 8 ls []) rfl ?_)
  refine lv_aload_n (pc := 8) hx hb dX8_init_8 rfl (lv_at hl 0 rfl) ?_
  refine lv_iload_n (pc := 9) hx hb dX8_init_9 rfl (lv_at hl 1 rfl) ?_
  replace hf := tg_s hf; obtain ⟨ht3, hf⟩ := hf
  replace hf := nm_s hf; obtain ⟨I4, hI4, hf⟩ := hf
  refine x_puti (pc := 10) X V okX8 (by decide) ht3 6 (by decide) q868 (Or.inr ⟨rfl, hini, rfl⟩) hI4 (fun _ _ _ => rfl) rfl rfl dX8_init_10 (fun H locs V => ?_)
  cases hf
  exact x_vret (pc := 13) X V hr dX8_init_13
theorem mX8_init (l : Launch) (D : va_G) (dA : Nat → ClassId) (s0 : Nat) {T : xT} {N : xT} {Z : Nat} {I : xI} {L : xL} {R : xR} {x0 : Nat} {x1 : Int32} {Io : xI} {Ro : xR} (hf : fX8_init (sv dA) T I R x0 x1 = some (Io, Ro)) : XMet l D dA s0 yX8_init (ws_ yX8_init cX8_init 2 (none)) (3) (68) [.ref x0, .int x1] T N Z I L R none T N Z Io L Ro 0 0 :=
  x_start (own := RX8) rfl (by decide) (Nat.le_of_ble_eq_true rfl) (lv := [(0, .ref x0), (1, .int x1)]) rfl (fun p e s m below meth c ls X hr hini V hl => wX8_init_e X hr hini hf V hl)
set_option maxHeartbeats 400000 in
set_option maxRecDepth 100000 in
theorem zX6_begins_rX7_b16 {dA : Nat → ClassId} {T : xT} {N : xT} {Z : Nat} {S : Nat} {I : xI} {R : xR}  {x0 : Nat} {z0 : Nat} {ro : (Nat ⊕ Unit)} {To : xT} {No : xT} {Zo : Nat} {So : Nat} {Io : xI} {Ro : xR}  (hf : fX6_begins_rX7_b16 (sv dA) T N Z S I R x0 z0 = some (ro, To, No, Zo, So, Io, Ro)) : Z ≤ Zo ∧ S ≤ So := by
  unfold fX6_begins_rX7_b16 at hf
  replace hf := tg_s hf; obtain ⟨ht1, hf⟩ := hf
  replace hf := b2s hf; obtain ⟨I2, R3, hk_4, hf⟩ := hf
  replace hf := tg_s hf; obtain ⟨ht5, hf⟩ := hf
  cases hf
  exact ⟨Nat.le_refl _, Nat.le_refl _⟩
set_option maxHeartbeats 400000 in
set_option maxRecDepth 100000 in
theorem wX6_begins_rX7_b16 {kc ks : Nat} {cells slots : Nat} {p : Program} {l : Launch} {e : Env} {s : State} {m : MethodId} {args : Array Value} {below : List Frame} {meth : Method} {c : Code} {D : va_G} {dA : Nat → ClassId} {s0 : Nat} {T : xT} {N : xT} {Z : Nat} {S : Nat} {I : xI} {L : xL} {R : xR} {H : Heap} {locs : List Loc} {ls : Array Slot}  {x0 : Nat} {z0 : Nat} {ro : (Nat ⊕ Unit)} {To : xT} {No : xT} {Zo : Nat} {So : Nat} {Io : xI} {Ro : xR} (X : Cx D dA s0 p m c cX6_begins 2 s args RX6 meth) (hr : meth.sig.returnType = none) (htE : c.exceptionTable.toList = [])   (hf : fX6_begins_rX7_b16 (sv dA) T N Z S I R x0 z0 = some (ro, To, No, Zo, So, Io, Ro)) (V : Iv D dA s0 s T N Z I L R H locs) (hl : lv_has ls 2 [(0, .ref x0)]) (hB : cells + (Zo - Z) ≤ kc ∧ slots + (So - S) ≤ ks) : W p l e { frames := 4, cells := kc, slots := ks, locals := 89 } s m args below meth c H locs cells slots (vx_MQ below (yQ D dA s0 (rV ro) To No Zo Io L Ro) (yX D dA s0 (rV ro) To No Zo Io L Ro) args s kc ks (fun q => s0 ≤ q)) (F0 m 16 ls [.ref z0]) := by
  have hx := X.1.1
  have hb := X.1.2.1
  unfold fX6_begins_rX7_b16 at hf
  refine lv_dup (pc := 16) hx hb dX6_begins_16 rfl ?_
  refine lv_aload_n (pc := 17) hx hb dX6_begins_17 rfl (lv_at hl 0 rfl) ?_
  replace hf := tg_s hf; obtain ⟨ht1, hf⟩ := hf
  refine x_get (pc := 18) X V okX7 ht1 3 (by decide) q744 (v := .int (I x0 3)) rfl dX6_begins_18 ?_
  replace hf := b2s hf; obtain ⟨I2, R3, hk_4, hf⟩ := hf
  refine x_callI0 (pc := 21) (As := [.int (I x0 3)]) (rest := [.ref z0]) X V (mX8_init l D dA s0 hk_4) q864 q865 q138 q866 rfl hsX8_init ⟨Nat.le_of_ble_eq_true rfl, Nat.le_of_ble_eq_true rfl⟩ rfl hl.1 rfl (Nat.le_of_ble_eq_true rfl) dX6_begins_21 ⟨by show cells ≤ kc; omega, by show slots ≤ ks; omega⟩ (fun H locs V => W.eq (g2 := F0 m 24 ls [.ref z0]) rfl ?_)
  replace hf := tg_s hf; obtain ⟨ht5, hf⟩ := hf
  refine vx_athrow (pc := 24) hx hb dX6_begins_24 ?_
  cases hf
  exact y_out X V htE okX8 ht5 (by omega) (by omega)
set_option maxHeartbeats 400000 in
set_option maxRecDepth 100000 in
theorem zX6_begins_rX7_b13 {dA : Nat → ClassId} {T : xT} {N : xT} {Z : Nat} {S : Nat} {I : xI} {R : xR}  {x0 : Nat} {ro : (Nat ⊕ Unit)} {To : xT} {No : xT} {Zo : Nat} {So : Nat} {Io : xI} {Ro : xR}  (hf : fX6_begins_rX7_b13 (sv dA) T N Z S I R x0 = some (ro, To, No, Zo, So, Io, Ro)) : Z ≤ Zo ∧ S ≤ So := by
  unfold fX6_begins_rX7_b13 at hf
  replace hf := nm_s hf; obtain ⟨T1, hT1, hf⟩ := hf
  replace hf := nm_s hf; obtain ⟨Z2, hZ2, hf⟩ := hf
  replace hf := nm_s hf; obtain ⟨S3, hS3, hf⟩ := hf
  have hm := zX6_begins_rX7_b16 hf
  exact ⟨by omega, by omega⟩
set_option maxHeartbeats 400000 in
set_option maxRecDepth 100000 in
theorem wX6_begins_rX7_b13 {kc ks : Nat} {cells slots : Nat} {p : Program} {l : Launch} {e : Env} {s : State} {m : MethodId} {args : Array Value} {below : List Frame} {meth : Method} {c : Code} {D : va_G} {dA : Nat → ClassId} {s0 : Nat} {T : xT} {N : xT} {Z : Nat} {S : Nat} {I : xI} {L : xL} {R : xR} {H : Heap} {locs : List Loc} {ls : Array Slot}  {x0 : Nat} {ro : (Nat ⊕ Unit)} {To : xT} {No : xT} {Zo : Nat} {So : Nat} {Io : xI} {Ro : xR} (X : Cx D dA s0 p m c cX6_begins 2 s args RX6 meth) (hr : meth.sig.returnType = none) (htE : c.exceptionTable.toList = [])   (hf : fX6_begins_rX7_b13 (sv dA) T N Z S I R x0 = some (ro, To, No, Zo, So, Io, Ro)) (V : Iv D dA s0 s T N Z I L R H locs) (hl : lv_has ls 2 [(0, .ref x0)]) (hB : cells + (Zo - Z) ≤ kc ∧ slots + (So - S) ≤ ks) : W p l e { frames := 4, cells := kc, slots := ks, locals := 89 } s m args below meth c H locs cells slots (vx_MQ below (yQ D dA s0 (rV ro) To No Zo Io L Ro) (yX D dA s0 (rV ro) To No Zo Io L Ro) args s kc ks (fun q => s0 ≤ q)) (F0 m 13 ls []) := by
  have hx := X.1.1
  have hb := X.1.2.1
  unfold fX6_begins_rX7_b13 at hf
  replace hf := nm_s hf; obtain ⟨T1, hT1, hf⟩ := hf
  replace hf := nm_s hf; obtain ⟨Z2, hZ2, hf⟩ := hf
  replace hf := nm_s hf; obtain ⟨S3, hS3, hf⟩ := hf
  have hm := zX6_begins_rX7_b16 hf
  refine x_new (pc := 13) X V okX8 hT1 hZ2 q855 q856 q138 (by show _ ≤ kc; omega) (by show _ ≤ ks; omega) dX6_begins_13 (fun H V => ?_)
  exact wX6_begins_rX7_b16 X hr htE hf V (lv_sub hl [0] rfl) ⟨by omega, by omega⟩
set_option maxHeartbeats 400000 in
set_option maxRecDepth 100000 in
theorem zX6_begins_rX7 {dA : Nat → ClassId} {T : xT} {N : xT} {Z : Nat} {S : Nat} {I : xI} {R : xR} {x0 : Nat} {x1 : Int32} {ro : (Nat ⊕ Unit)} {To : xT} {No : xT} {Zo : Nat} {So : Nat} {Io : xI} {Ro : xR} (hf : fX6_begins_rX7 (sv dA) T N Z S I R x0 x1 = some (ro, To, No, Zo, So, Io, Ro)) : Z ≤ Zo ∧ S ≤ So := by
  unfold fX6_begins_rX7 at hf
  replace hf := tg_s hf; obtain ⟨ht1, hf⟩ := hf
  rcases (Decidable.em ((I x0 2) = (ii 12))) with c2 | c2
  · replace hf := if_t hf c2
    have hm := zX6_begins_rX7_b13 hf
    exact ⟨by omega, by omega⟩
  · replace hf := if_f hf c2
    rcases (Decidable.em (x1 = (ii 0))).symm with c3 | c3
    · replace hf := if_f hf c3
      replace hf := nm_s hf; obtain ⟨I4, hI4, hf⟩ := hf
      cases hf
      exact ⟨Nat.le_refl _, Nat.le_refl _⟩
    · replace hf := if_t hf c3
      have hm := zX6_begins_rX7_b13 hf
      exact ⟨by omega, by omega⟩
set_option maxHeartbeats 400000 in
set_option maxRecDepth 100000 in
theorem wX6_begins_rX7_e {kc ks : Nat} {cells slots : Nat} {p : Program} {l : Launch} {e : Env} {s : State} {m : MethodId} {args : Array Value} {below : List Frame} {meth : Method} {c : Code} {D : va_G} {dA : Nat → ClassId} {s0 : Nat} {T : xT} {N : xT} {Z : Nat} {S : Nat} {I : xI} {L : xL} {R : xR} {H : Heap} {locs : List Loc} {ls : Array Slot} {x0 : Nat} {x1 : Int32} {ro : (Nat ⊕ Unit)} {To : xT} {No : xT} {Zo : Nat} {So : Nat} {Io : xI} {Ro : xR} (X : Cx D dA s0 p m c cX6_begins 2 s args RX6 meth) (hr : meth.sig.returnType = none) (htE : c.exceptionTable.toList = []) (hf : fX6_begins_rX7 (sv dA) T N Z S I R x0 x1 = some (ro, To, No, Zo, So, Io, Ro)) (V : Iv D dA s0 s T N Z I L R H locs) (hl : lv_has ls 2 [(0, .ref x0), (1, .int x1)]) (hB : cells + (Zo - Z) ≤ kc ∧ slots + (So - S) ≤ ks) : W p l e { frames := 4, cells := kc, slots := ks, locals := 89 } s m args below meth c H locs cells slots (vx_MQ below (yQ D dA s0 (rV ro) To No Zo Io L Ro) (yX D dA s0 (rV ro) To No Zo Io L Ro) args s kc ks (fun q => s0 ≤ q)) (F0 m 0 ls []) := by
  have hx := X.1.1
  have hb := X.1.2.1
  unfold fX6_begins_rX7 at hf
  refine lv_aload_n (pc := 0) hx hb dX6_begins_0 rfl (lv_at hl 0 rfl) ?_
  replace hf := tg_s hf; obtain ⟨ht1, hf⟩ := hf
  refine x_get (pc := 1) X V okX7 ht1 2 (by decide) q743 (v := .int (I x0 2)) rfl dX6_begins_1 ?_
  refine lv_bipush (pc := 4) (v := (ii 12)) hx hb dX6_begins_4 (by decide) ?_
  refine lv_icmp_eq (pc := 6) (tgt := 13) hx hb dX6_begins_6 (by decide) (fun c2 => ?_) (fun c2 => ?_)
  · replace hf := if_t hf c2
    exact wX6_begins_rX7_b13 X hr htE hf V (lv_sub hl [0] rfl) ⟨by omega, by omega⟩
  · replace hf := if_f hf c2
    refine lv_iload_n (pc := 9) hx hb dX6_begins_9 rfl (lv_at hl 1 rfl) ?_
    refine lv_if_ne (pc := 10) (tgt := 25) hx hb dX6_begins_10 (by decide) (fun c3 => ?_) (fun c3 => ?_)
    · replace hf := if_f hf c3
      refine lv_aload_n (pc := 25) hx hb dX6_begins_25 rfl (lv_at hl 0 rfl) ?_
      refine lv_dup (pc := 26) hx hb dX6_begins_26 rfl ?_
      refine x_get (pc := 27) X V okX7 ht1 2 (by decide) q743 (v := .int (I x0 2)) rfl dX6_begins_27 ?_
      refine lv_iconst (pc := 30) (v := (ii 1)) hx hb dX6_begins_30 (by decide) ?_
      refine lv_iadd (pc := 31) hx hb dX6_begins_31 ?_
      replace hf := nm_s hf; obtain ⟨I4, hI4, hf⟩ := hf
      refine x_puti (pc := 32) X V okX7 (by decide) ht1 2 (by decide) q743 (Or.inl rfl) hI4 (fun _ _ _ => rfl) rfl rfl dX6_begins_32 (fun H locs V => ?_)
      cases hf
      exact y_vret (pc := 35) X V hr (by omega) (by omega) dX6_begins_35
    · replace hf := if_t hf c3
      exact wX6_begins_rX7_b13 X hr htE hf V (lv_sub hl [0] rfl) ⟨by omega, by omega⟩
theorem mX6_begins_rX7 (l : Launch) (D : va_G) (dA : Nat → ClassId) (s0 : Nat) {kc ks : Nat} {T : xT} {N : xT} {Z : Nat} {S : Nat} {I : xI} {L : xL} {R : xR} {x0 : Nat} {x1 : Int32} {ro : (Nat ⊕ Unit)} {To : xT} {No : xT} {Zo : Nat} {So : Nat} {Io : xI} {Ro : xR} (hZ : Zo - Z ≤ kc) (hS : So - S ≤ ks) (hf : fX6_begins_rX7 (sv dA) T N Z S I R x0 x1 = some (ro, To, No, Zo, So, Io, Ro)) : YMet l D dA s0 yX6_begins (ws_ yX6_begins cX6_begins 2 (none)) (4) (89) [.ref x0, .int x1] T N Z I L R (rV ro) To No Zo Io L Ro kc ks :=
  y_start (own := RX6) rfl (by decide) (Nat.le_of_ble_eq_true rfl) (lv := [(0, .ref x0), (1, .int x1)]) rfl (fun p e s m below meth c ls X hr htE V hl => wX6_begins_rX7_e X hr htE hf V hl ⟨by omega, by omega⟩)
set_option maxHeartbeats 400000 in
set_option maxRecDepth 100000 in
theorem wX6_isIn_rX7_e {p : Program} {l : Launch} {e : Env} {s : State} {m : MethodId} {args : Array Value} {below : List Frame} {meth : Method} {c : Code} {D : va_G} {dA : Nat → ClassId} {s0 : Nat} {T : xT} {N : xT} {Z : Nat} {I : xI} {L : xL} {R : xR} {H : Heap} {locs : List Loc} {ls : Array Slot} {x0 : Nat} {x1 : Int32} {x2 : Int32} {x3 : Int32} {ro : Int32} (X : Cx D dA s0 p m c cX6_isIn 4 s args RX6 meth) (hr : meth.sig.returnType = (some .boolean)) (hf : fX6_isIn_rX7 T N I R x0 x1 x2 x3 = some ro) (V : Iv D dA s0 s T N Z I L R H locs) (hl : lv_has ls 4 [(0, .ref x0), (1, .int x1), (2, .int x2), (3, .int x3)]) : W p l e { frames := 0, cells := 0, slots := 0, locals := 0 } s m args below meth c H locs 0 0 (MQ below (xQ D dA s0 (some (.int ro)) T N Z I L R) args s 0 0 (fun q => s0 ≤ q)) (F0 m 0 ls []) := by
  have hx := X.1.1
  have hb := X.1.2.1
  unfold fX6_isIn_rX7 at hf
  refine lv_iload_n (pc := 0) hx hb dX6_isIn_0 rfl (lv_at hl 1 rfl) ?_
  refine lv_aload_n (pc := 1) hx hb dX6_isIn_1 rfl (lv_at hl 0 rfl) ?_
  replace hf := tg_s hf; obtain ⟨ht1, hf⟩ := hf
  refine x_get (pc := 2) X V okX7 ht1 1 (by decide) q742 (v := .int (I x0 1)) rfl dX6_isIn_2 ?_
  refine lv_icmp_ge (pc := 5) (tgt := 32) hx hb dX6_isIn_5 (by decide) (fun c2 => ?_) (fun c2 => ?_)
  · replace hf := if_t hf c2
    refine lv_iconst (pc := 32) (v := (ii 0)) hx hb dX6_isIn_32 (by decide) ?_
    cases hf
    exact x_zret (pc := 33) X V hr (by decide) dX6_isIn_33
  · replace hf := if_f hf c2
    refine lv_aload_n (pc := 8) hx hb dX6_isIn_8 rfl (lv_at hl 0 rfl) ?_
    replace hf := bs hf; obtain ⟨a3, ha3, hf⟩ := hf
    refine x_get (pc := 9) X V okX7 ht1 0 (by decide) q741 (v := va_rf (R x0 0)) rfl dX6_isIn_9 ?_
    refine x_topr ha3 ?_
    refine lv_iload_n (pc := 12) hx hb dX6_isIn_12 rfl (lv_at hl 1 rfl) ?_
    replace hf := rA_s hf; obtain ⟨j4, hjj4, htj4, hij4, hf⟩ := hf
    refine x_bald (pc := 13) X V htj4 hij4 hjj4 dX6_isIn_13 ?_
    refine lv_iload_n (pc := 14) hx hb dX6_isIn_14 rfl (lv_at hl 2 rfl) ?_
    refine lv_icmp_lt (pc := 15) (tgt := 32) hx hb dX6_isIn_15 (by decide) (fun c5 => ?_) (fun c5 => ?_)
    · replace hf := if_t hf c5
      refine lv_iconst (pc := 32) (v := (ii 0)) hx hb dX6_isIn_32 (by decide) ?_
      cases hf
      exact x_zret (pc := 33) X V hr (by decide) dX6_isIn_33
    · replace hf := if_f hf c5
      refine lv_aload_n (pc := 18) hx hb dX6_isIn_18 rfl (lv_at hl 0 rfl) ?_
      refine x_get (pc := 19) X V okX7 ht1 0 (by decide) q741 (v := va_rf (R x0 0)) rfl dX6_isIn_19 ?_
      refine x_topr ha3 ?_
      refine lv_iload_n (pc := 22) hx hb dX6_isIn_22 rfl (lv_at hl 1 rfl) ?_
      refine x_bald (pc := 23) X V htj4 hij4 hjj4 dX6_isIn_23 ?_
      refine lv_iload_n (pc := 24) hx hb dX6_isIn_24 rfl (lv_at hl 3 rfl) ?_
      refine lv_icmp_gt (pc := 25) (tgt := 32) hx hb dX6_isIn_25 (by decide) (fun c6 => ?_) (fun c6 => ?_)
      · replace hf := if_t hf c6
        refine lv_iconst (pc := 32) (v := (ii 0)) hx hb dX6_isIn_32 (by decide) ?_
        cases hf
        exact x_zret (pc := 33) X V hr (by decide) dX6_isIn_33
      · replace hf := if_f hf c6
        refine lv_iconst (pc := 28) (v := (ii 1)) hx hb dX6_isIn_28 (by decide) ?_
        refine lv_goto (pc := 29) (tgt := 33) hx hb dX6_isIn_29 (by decide) ?_
        cases hf
        exact x_zret (pc := 33) X V hr (by decide) dX6_isIn_33
theorem mX6_isIn_rX7 (l : Launch) (D : va_G) (dA : Nat → ClassId) (s0 : Nat) {T : xT} {N : xT} {Z : Nat} {I : xI} {L : xL} {R : xR} {x0 : Nat} {x1 : Int32} {x2 : Int32} {x3 : Int32} {ro : Int32} (hf : fX6_isIn_rX7 T N I R x0 x1 x2 x3 = some ro) : XMet l D dA s0 yX6_isIn (ws_ yX6_isIn cX6_isIn 4 ((some .boolean))) (0) (0) [.ref x0, .int x1, .int x2, .int x3] T N Z I L R (some (.int ro)) T N Z I L R 0 0 :=
  x_start (own := RX6) rfl (by decide) (Nat.le_of_ble_eq_true rfl) (lv := [(0, .ref x0), (1, .int x1), (2, .int x2), (3, .int x3)]) rfl (fun p e s m below meth c ls X hr hini V hl => wX6_isIn_rX7_e X hr hf V hl)
set_option maxHeartbeats 400000 in
set_option maxRecDepth 100000 in
theorem wX6_next_rX7_b102 {nf : Nat} {p : Program} {l : Launch} {e : Env} {s : State} {m : MethodId} {args : Array Value} {below : List Frame} {meth : Method} {c : Code} {D : va_G} {dA : Nat → ClassId} {s0 : Nat} {T : xT} {N : xT} {Z : Nat} {L : xL} {R : xR}  {Io : xI} (X : Cx D dA s0 p m c cX6_next 1 s args RX6 meth) (hr : meth.sig.returnType = none)   (k : Nat) : ∀ {I : xI} {x0 : Nat} {H : Heap} {locs : List Loc} {ls : Array Slot} , fX6_next_rX7_b102 nf T N R k I x0 = some Io → Iv D dA s0 s T N Z I L R H locs → lv_has ls 1 [(0, .ref x0)] → W p l e { frames := 1, cells := 0, slots := 0, locals := 23 } s m args below meth c H locs 0 0 (MQ below (xQ D dA s0 none T N Z Io L R) args s 0 0 (fun q => s0 ≤ q)) (F0 m 102 ls []) := by
  have hx := X.1.1
  have hb := X.1.2.1
  induction k with
  | zero =>
    intro I x0 H locs ls hf V hl
    exact absurd (show none = some _ from hf) (fun q => nomatch q)
  | succ k ih =>
    intro I x0 H locs ls hf V hl
    rw [fX6_next_rX7_b102] at hf
    refine lv_aload_n (pc := 102) hx hb dX6_next_102 rfl (lv_at hl 0 rfl) ?_
    refine lv_aload_n (pc := 103) hx hb dX6_next_103 rfl (lv_at hl 0 rfl) ?_
    replace hf := tg_s hf; obtain ⟨ht1, hf⟩ := hf
    refine x_get (pc := 104) X V okX7 ht1 4 (by decide) q745 (v := .int (I x0 4)) rfl dX6_next_104 ?_
    refine lv_bipush (pc := 107) (v := (ii 48)) hx hb dX6_next_107 (by decide) ?_
    refine lv_bipush (pc := 109) (v := (ii 57)) hx hb dX6_next_109 (by decide) ?_
    replace hf := bs hf; obtain ⟨r2, hk_3, hf⟩ := hf
    refine x_callU (pc := 111) (As := [.int (I x0 4), .int (ii 48), .int (ii 57)]) (rest := []) X V (mX6_isIn_rX7 l D dA s0 hk_3) okX7 ht1 q782 q784 q785 q783 q133 q787 rfl hsX6_isIn_rX7 ⟨Nat.le_of_ble_eq_true rfl, Nat.le_of_ble_eq_true rfl⟩ rfl hl.1 rfl (Nat.le_of_ble_eq_true rfl) dX6_next_111 ⟨Nat.zero_le _, Nat.zero_le _⟩ (fun H locs V => W.eq (g2 := F0 m 114 ls [.int r2]) rfl ?_)
    refine lv_if_eq (pc := 114) (tgt := 151) hx hb dX6_next_114 (by decide) (fun c4 => ?_) (fun c4 => ?_)
    · replace hf := if_t hf c4
      cases hf
      exact x_vret (pc := 151) X V hr dX6_next_151
    · replace hf := if_f hf c4
      refine lv_aload_n (pc := 117) hx hb dX6_next_117 rfl (lv_at hl 0 rfl) ?_
      refine lv_dup (pc := 118) hx hb dX6_next_118 rfl ?_
      refine x_get (pc := 119) X V okX7 ht1 4 (by decide) q745 (v := .int (I x0 4)) rfl dX6_next_119 ?_
      refine lv_iconst (pc := 122) (v := (ii 1)) hx hb dX6_next_122 (by decide) ?_
      refine lv_iadd (pc := 123) hx hb dX6_next_123 ?_
      replace hf := nm_s hf; obtain ⟨I5, hI5, hf⟩ := hf
      refine x_puti (pc := 124) X V okX7 (by decide) ht1 4 (by decide) q745 (Or.inl rfl) hI5 (fun _ _ _ => rfl) rfl rfl dX6_next_124 (fun H locs V => ?_)
      refine lv_goto (pc := 127) (tgt := 102) hx hb dX6_next_127 (by decide) ?_
      exact ih hf V (lv_sub hl [0] rfl)
set_option maxHeartbeats 400000 in
set_option maxRecDepth 100000 in
theorem wX6_next_rX7_b59 {nf : Nat} {p : Program} {l : Launch} {e : Env} {s : State} {m : MethodId} {args : Array Value} {below : List Frame} {meth : Method} {c : Code} {D : va_G} {dA : Nat → ClassId} {s0 : Nat} {T : xT} {N : xT} {Z : Nat} {L : xL} {R : xR}  {Io : xI} (X : Cx D dA s0 p m c cX6_next 1 s args RX6 meth) (hr : meth.sig.returnType = none)   (k : Nat) : ∀ {I : xI} {x0 : Nat} {H : Heap} {locs : List Loc} {ls : Array Slot} , fX6_next_rX7_b59 nf T N R k I x0 = some Io → Iv D dA s0 s T N Z I L R H locs → lv_has ls 1 [(0, .ref x0)] → W p l e { frames := 1, cells := 0, slots := 0, locals := 23 } s m args below meth c H locs 0 0 (MQ below (xQ D dA s0 none T N Z Io L R) args s 0 0 (fun q => s0 ≤ q)) (F0 m 59 ls []) := by
  have hx := X.1.1
  have hb := X.1.2.1
  induction k with
  | zero =>
    intro I x0 H locs ls hf V hl
    exact absurd (show none = some _ from hf) (fun q => nomatch q)
  | succ k ih =>
    intro I x0 H locs ls hf V hl
    rw [fX6_next_rX7_b59] at hf
    refine lv_aload_n (pc := 59) hx hb dX6_next_59 rfl (lv_at hl 0 rfl) ?_
    refine lv_aload_n (pc := 60) hx hb dX6_next_60 rfl (lv_at hl 0 rfl) ?_
    replace hf := tg_s hf; obtain ⟨ht1, hf⟩ := hf
    refine x_get (pc := 61) X V okX7 ht1 4 (by decide) q745 (v := .int (I x0 4)) rfl dX6_next_61 ?_
    refine lv_bipush (pc := 64) (v := (ii 97)) hx hb dX6_next_64 (by decide) ?_
    refine lv_bipush (pc := 66) (v := (ii 122)) hx hb dX6_next_66 (by decide) ?_
    replace hf := bs hf; obtain ⟨r2, hk_3, hf⟩ := hf
    refine x_callU (pc := 68) (As := [.int (I x0 4), .int (ii 97), .int (ii 122)]) (rest := []) X V (mX6_isIn_rX7 l D dA s0 hk_3) okX7 ht1 q782 q784 q785 q783 q133 q787 rfl hsX6_isIn_rX7 ⟨Nat.le_of_ble_eq_true rfl, Nat.le_of_ble_eq_true rfl⟩ rfl hl.1 rfl (Nat.le_of_ble_eq_true rfl) dX6_next_68 ⟨Nat.zero_le _, Nat.zero_le _⟩ (fun H locs V => W.eq (g2 := F0 m 71 ls [.int r2]) rfl ?_)
    refine lv_if_eq (pc := 71) (tgt := 151) hx hb dX6_next_71 (by decide) (fun c4 => ?_) (fun c4 => ?_)
    · replace hf := if_t hf c4
      cases hf
      exact x_vret (pc := 151) X V hr dX6_next_151
    · replace hf := if_f hf c4
      refine lv_aload_n (pc := 74) hx hb dX6_next_74 rfl (lv_at hl 0 rfl) ?_
      refine lv_dup (pc := 75) hx hb dX6_next_75 rfl ?_
      refine x_get (pc := 76) X V okX7 ht1 4 (by decide) q745 (v := .int (I x0 4)) rfl dX6_next_76 ?_
      refine lv_iconst (pc := 79) (v := (ii 1)) hx hb dX6_next_79 (by decide) ?_
      refine lv_iadd (pc := 80) hx hb dX6_next_80 ?_
      replace hf := nm_s hf; obtain ⟨I5, hI5, hf⟩ := hf
      refine x_puti (pc := 81) X V okX7 (by decide) ht1 4 (by decide) q745 (Or.inl rfl) hI5 (fun _ _ _ => rfl) rfl rfl dX6_next_81 (fun H locs V => ?_)
      refine lv_goto (pc := 84) (tgt := 59) hx hb dX6_next_84 (by decide) ?_
      exact ih hf V (lv_sub hl [0] rfl)
set_option maxHeartbeats 400000 in
set_option maxRecDepth 100000 in
theorem wX6_next_rX7_b8 {nf : Nat} {p : Program} {l : Launch} {e : Env} {s : State} {m : MethodId} {args : Array Value} {below : List Frame} {meth : Method} {c : Code} {D : va_G} {dA : Nat → ClassId} {s0 : Nat} {T : xT} {N : xT} {Z : Nat} {L : xL} {R : xR}  {Io : xI} (X : Cx D dA s0 p m c cX6_next 1 s args RX6 meth) (hr : meth.sig.returnType = none)   (k : Nat) : ∀ {I : xI} {x0 : Nat} {H : Heap} {locs : List Loc} {ls : Array Slot} , fX6_next_rX7_b8 nf T N R k I x0 = some Io → Iv D dA s0 s T N Z I L R H locs → lv_has ls 1 [(0, .ref x0)] → W p l e { frames := 1, cells := 0, slots := 0, locals := 23 } s m args below meth c H locs 0 0 (MQ below (xQ D dA s0 none T N Z Io L R) args s 0 0 (fun q => s0 ≤ q)) (F0 m 8 ls []) := by
  have hx := X.1.1
  have hb := X.1.2.1
  induction k with
  | zero =>
    intro I x0 H locs ls hf V hl
    exact absurd (show none = some _ from hf) (fun q => nomatch q)
  | succ k ih =>
    intro I x0 H locs ls hf V hl
    rw [fX6_next_rX7_b8] at hf
    refine lv_aload_n (pc := 8) hx hb dX6_next_8 rfl (lv_at hl 0 rfl) ?_
    refine lv_aload_n (pc := 9) hx hb dX6_next_9 rfl (lv_at hl 0 rfl) ?_
    replace hf := tg_s hf; obtain ⟨ht1, hf⟩ := hf
    refine x_get (pc := 10) X V okX7 ht1 3 (by decide) q744 (v := .int (I x0 3)) rfl dX6_next_10 ?_
    refine lv_bipush (pc := 13) (v := (ii 32)) hx hb dX6_next_13 (by decide) ?_
    refine lv_bipush (pc := 15) (v := (ii 32)) hx hb dX6_next_15 (by decide) ?_
    replace hf := bs hf; obtain ⟨r2, hk_3, hf⟩ := hf
    refine x_callU (pc := 17) (As := [.int (I x0 3), .int (ii 32), .int (ii 32)]) (rest := []) X V (mX6_isIn_rX7 l D dA s0 hk_3) okX7 ht1 q782 q784 q785 q783 q133 q787 rfl hsX6_isIn_rX7 ⟨Nat.le_of_ble_eq_true rfl, Nat.le_of_ble_eq_true rfl⟩ rfl hl.1 rfl (Nat.le_of_ble_eq_true rfl) dX6_next_17 ⟨Nat.zero_le _, Nat.zero_le _⟩ (fun H locs V => W.eq (g2 := F0 m 20 ls [.int r2]) rfl ?_)
    refine lv_if_eq (pc := 20) (tgt := 36) hx hb dX6_next_20 (by decide) (fun c4 => ?_) (fun c4 => ?_)
    · replace hf := if_t hf c4
      refine lv_aload_n (pc := 36) hx hb dX6_next_36 rfl (lv_at hl 0 rfl) ?_
      refine lv_aload_n (pc := 37) hx hb dX6_next_37 rfl (lv_at hl 0 rfl) ?_
      refine x_get (pc := 38) X V okX7 ht1 3 (by decide) q744 (v := .int (I x0 3)) rfl dX6_next_38 ?_
      replace hf := nm_s hf; obtain ⟨I5, hI5, hf⟩ := hf
      refine x_puti (pc := 41) X V okX7 (by decide) ht1 4 (by decide) q745 (Or.inl rfl) hI5 (fun _ _ _ => rfl) rfl rfl dX6_next_41 (fun H locs V => ?_)
      refine lv_aload_n (pc := 44) hx hb dX6_next_44 rfl (lv_at hl 0 rfl) ?_
      refine lv_aload_n (pc := 45) hx hb dX6_next_45 rfl (lv_at hl 0 rfl) ?_
      refine x_get (pc := 46) X V okX7 ht1 3 (by decide) q744 (v := .int (I5 x0 3)) rfl dX6_next_46 ?_
      refine lv_bipush (pc := 49) (v := (ii 97)) hx hb dX6_next_49 (by decide) ?_
      refine lv_bipush (pc := 51) (v := (ii 122)) hx hb dX6_next_51 (by decide) ?_
      replace hf := bs hf; obtain ⟨r6, hk_7, hf⟩ := hf
      refine x_callU (pc := 53) (As := [.int (I5 x0 3), .int (ii 97), .int (ii 122)]) (rest := []) X V (mX6_isIn_rX7 l D dA s0 hk_7) okX7 ht1 q782 q784 q785 q783 q133 q787 rfl hsX6_isIn_rX7 ⟨Nat.le_of_ble_eq_true rfl, Nat.le_of_ble_eq_true rfl⟩ rfl hl.1 rfl (Nat.le_of_ble_eq_true rfl) dX6_next_53 ⟨Nat.zero_le _, Nat.zero_le _⟩ (fun H locs V => W.eq (g2 := F0 m 56 ls [.int r6]) rfl ?_)
      refine lv_if_eq (pc := 56) (tgt := 87) hx hb dX6_next_56 (by decide) (fun c8 => ?_) (fun c8 => ?_)
      · replace hf := if_t hf c8
        refine lv_aload_n (pc := 87) hx hb dX6_next_87 rfl (lv_at hl 0 rfl) ?_
        refine lv_aload_n (pc := 88) hx hb dX6_next_88 rfl (lv_at hl 0 rfl) ?_
        refine x_get (pc := 89) X V okX7 ht1 3 (by decide) q744 (v := .int (I5 x0 3)) rfl dX6_next_89 ?_
        refine lv_bipush (pc := 92) (v := (ii 48)) hx hb dX6_next_92 (by decide) ?_
        refine lv_bipush (pc := 94) (v := (ii 57)) hx hb dX6_next_94 (by decide) ?_
        replace hf := bs hf; obtain ⟨r9, hk_10, hf⟩ := hf
        refine x_callU (pc := 96) (As := [.int (I5 x0 3), .int (ii 48), .int (ii 57)]) (rest := []) X V (mX6_isIn_rX7 l D dA s0 hk_10) okX7 ht1 q782 q784 q785 q783 q133 q787 rfl hsX6_isIn_rX7 ⟨Nat.le_of_ble_eq_true rfl, Nat.le_of_ble_eq_true rfl⟩ rfl hl.1 rfl (Nat.le_of_ble_eq_true rfl) dX6_next_96 ⟨Nat.zero_le _, Nat.zero_le _⟩ (fun H locs V => W.eq (g2 := F0 m 99 ls [.int r9]) rfl ?_)
        refine lv_if_eq (pc := 99) (tgt := 130) hx hb dX6_next_99 (by decide) (fun c11 => ?_) (fun c11 => ?_)
        · replace hf := if_t hf c11
          refine lv_aload_n (pc := 130) hx hb dX6_next_130 rfl (lv_at hl 0 rfl) ?_
          refine x_get (pc := 131) X V okX7 ht1 3 (by decide) q744 (v := .int (I5 x0 3)) rfl dX6_next_131 ?_
          refine lv_aload_n (pc := 134) hx hb dX6_next_134 rfl (lv_at hl 0 rfl) ?_
          refine x_get (pc := 135) X V okX7 ht1 1 (by decide) q742 (v := .int (I5 x0 1)) rfl dX6_next_135 ?_
          refine lv_icmp_ge (pc := 138) (tgt := 151) hx hb dX6_next_138 (by decide) (fun c12 => ?_) (fun c12 => ?_)
          · replace hf := if_t hf c12
            cases hf
            exact x_vret (pc := 151) X V hr dX6_next_151
          · replace hf := if_f hf c12
            refine lv_aload_n (pc := 141) hx hb dX6_next_141 rfl (lv_at hl 0 rfl) ?_
            refine lv_dup (pc := 142) hx hb dX6_next_142 rfl ?_
            refine x_get (pc := 143) X V okX7 ht1 4 (by decide) q745 (v := .int (I5 x0 4)) rfl dX6_next_143 ?_
            refine lv_iconst (pc := 146) (v := (ii 1)) hx hb dX6_next_146 (by decide) ?_
            refine lv_iadd (pc := 147) hx hb dX6_next_147 ?_
            replace hf := nm_s hf; obtain ⟨I13, hI13, hf⟩ := hf
            refine x_puti (pc := 148) X V okX7 (by decide) ht1 4 (by decide) q745 (Or.inl rfl) hI13 (fun _ _ _ => rfl) rfl rfl dX6_next_148 (fun H locs V => ?_)
            cases hf
            exact x_vret (pc := 151) X V hr dX6_next_151
        · replace hf := if_f hf c11
          exact wX6_next_rX7_b102 X hr nf hf V (lv_sub hl [0] rfl)
      · replace hf := if_f hf c8
        exact wX6_next_rX7_b59 X hr nf hf V (lv_sub hl [0] rfl)
    · replace hf := if_f hf c4
      refine lv_aload_n (pc := 23) hx hb dX6_next_23 rfl (lv_at hl 0 rfl) ?_
      refine lv_dup (pc := 24) hx hb dX6_next_24 rfl ?_
      refine x_get (pc := 25) X V okX7 ht1 3 (by decide) q744 (v := .int (I x0 3)) rfl dX6_next_25 ?_
      refine lv_iconst (pc := 28) (v := (ii 1)) hx hb dX6_next_28 (by decide) ?_
      refine lv_iadd (pc := 29) hx hb dX6_next_29 ?_
      replace hf := nm_s hf; obtain ⟨I14, hI14, hf⟩ := hf
      refine x_puti (pc := 30) X V okX7 (by decide) ht1 3 (by decide) q744 (Or.inl rfl) hI14 (fun _ _ _ => rfl) rfl rfl dX6_next_30 (fun H locs V => ?_)
      refine lv_goto (pc := 33) (tgt := 8) hx hb dX6_next_33 (by decide) ?_
      exact ih hf V (lv_sub hl [0] rfl)
set_option maxHeartbeats 400000 in
set_option maxRecDepth 100000 in
theorem wX6_next_rX7_e {nf : Nat} {p : Program} {l : Launch} {e : Env} {s : State} {m : MethodId} {args : Array Value} {below : List Frame} {meth : Method} {c : Code} {D : va_G} {dA : Nat → ClassId} {s0 : Nat} {T : xT} {N : xT} {Z : Nat} {I : xI} {L : xL} {R : xR} {H : Heap} {locs : List Loc} {ls : Array Slot} {x0 : Nat} {Io : xI} (X : Cx D dA s0 p m c cX6_next 1 s args RX6 meth) (hr : meth.sig.returnType = none) (hf : fX6_next_rX7 nf T N I R x0 = some Io) (V : Iv D dA s0 s T N Z I L R H locs) (hl : lv_has ls 1 [(0, .ref x0)]) : W p l e { frames := 1, cells := 0, slots := 0, locals := 23 } s m args below meth c H locs 0 0 (MQ below (xQ D dA s0 none T N Z Io L R) args s 0 0 (fun q => s0 ≤ q)) (F0 m 0 ls []) := by
  have hx := X.1.1
  have hb := X.1.2.1
  unfold fX6_next_rX7 at hf
  refine lv_aload_n (pc := 0) hx hb dX6_next_0 rfl (lv_at hl 0 rfl) ?_
  refine lv_aload_n (pc := 1) hx hb dX6_next_1 rfl (lv_at hl 0 rfl) ?_
  replace hf := tg_s hf; obtain ⟨ht1, hf⟩ := hf
  refine x_get (pc := 2) X V okX7 ht1 4 (by decide) q745 (v := .int (I x0 4)) rfl dX6_next_2 ?_
  replace hf := nm_s hf; obtain ⟨I2, hI2, hf⟩ := hf
  refine x_puti (pc := 5) X V okX7 (by decide) ht1 3 (by decide) q744 (Or.inl rfl) hI2 (fun _ _ _ => rfl) rfl rfl dX6_next_5 (fun H locs V => ?_)
  exact wX6_next_rX7_b8 X hr nf hf V (lv_sub hl [0] rfl)
theorem mX6_next_rX7 {nf : Nat} (l : Launch) (D : va_G) (dA : Nat → ClassId) (s0 : Nat) {T : xT} {N : xT} {Z : Nat} {I : xI} {L : xL} {R : xR} {x0 : Nat} {Io : xI} (hf : fX6_next_rX7 nf T N I R x0 = some Io) : XMet l D dA s0 yX6_next (ws_ yX6_next cX6_next 1 (none)) (1) (23) [.ref x0] T N Z I L R none T N Z Io L R 0 0 :=
  x_start (own := RX6) rfl (by decide) (Nat.le_of_ble_eq_true rfl) (lv := [(0, .ref x0)]) rfl (fun p e s m below meth c ls X hr hini V hl => wX6_next_rX7_e X hr hf V hl)
set_option maxHeartbeats 400000 in
set_option maxRecDepth 100000 in
theorem zX6_opens_rX7_b12 {nf : Nat} {dA : Nat → ClassId} {T : xT} {N : xT} {Z : Nat} {S : Nat} {I : xI} {R : xR}  {x0 : Nat} {z0 : Nat} {ro : (Nat ⊕ Unit)} {To : xT} {No : xT} {Zo : Nat} {So : Nat} {Io : xI} {Ro : xR}  (hf : fX6_opens_rX7_b12 nf (sv dA) T N Z S I R x0 z0 = some (ro, To, No, Zo, So, Io, Ro)) : Z ≤ Zo ∧ S ≤ So := by
  unfold fX6_opens_rX7_b12 at hf
  replace hf := tg_s hf; obtain ⟨ht1, hf⟩ := hf
  replace hf := b2s hf; obtain ⟨I2, R3, hk_4, hf⟩ := hf
  replace hf := tg_s hf; obtain ⟨ht5, hf⟩ := hf
  cases hf
  exact ⟨Nat.le_refl _, Nat.le_refl _⟩
set_option maxHeartbeats 400000 in
set_option maxRecDepth 100000 in
theorem wX6_opens_rX7_b12 {nf : Nat} {kc ks : Nat} {cells slots : Nat} {p : Program} {l : Launch} {e : Env} {s : State} {m : MethodId} {args : Array Value} {below : List Frame} {meth : Method} {c : Code} {D : va_G} {dA : Nat → ClassId} {s0 : Nat} {T : xT} {N : xT} {Z : Nat} {S : Nat} {I : xI} {L : xL} {R : xR} {H : Heap} {locs : List Loc} {ls : Array Slot}  {x0 : Nat} {z0 : Nat} {ro : (Nat ⊕ Unit)} {To : xT} {No : xT} {Zo : Nat} {So : Nat} {Io : xI} {Ro : xR} (X : Cx D dA s0 p m c cX6_opens 1 s args RX6 meth) (hr : meth.sig.returnType = none) (htE : c.exceptionTable.toList = [])   (hf : fX6_opens_rX7_b12 nf (sv dA) T N Z S I R x0 z0 = some (ro, To, No, Zo, So, Io, Ro)) (V : Iv D dA s0 s T N Z I L R H locs) (hl : lv_has ls 1 [(0, .ref x0)]) (hB : cells + (Zo - Z) ≤ kc ∧ slots + (So - S) ≤ ks) : W p l e { frames := 4, cells := kc, slots := ks, locals := 89 } s m args below meth c H locs cells slots (vx_MQ below (yQ D dA s0 (rV ro) To No Zo Io L Ro) (yX D dA s0 (rV ro) To No Zo Io L Ro) args s kc ks (fun q => s0 ≤ q)) (F0 m 12 ls [.ref z0]) := by
  have hx := X.1.1
  have hb := X.1.2.1
  unfold fX6_opens_rX7_b12 at hf
  refine lv_dup (pc := 12) hx hb dX6_opens_12 rfl ?_
  refine lv_aload_n (pc := 13) hx hb dX6_opens_13 rfl (lv_at hl 0 rfl) ?_
  replace hf := tg_s hf; obtain ⟨ht1, hf⟩ := hf
  refine x_get (pc := 14) X V okX7 ht1 3 (by decide) q744 (v := .int (I x0 3)) rfl dX6_opens_14 ?_
  replace hf := b2s hf; obtain ⟨I2, R3, hk_4, hf⟩ := hf
  refine x_callI0 (pc := 17) (As := [.int (I x0 3)]) (rest := [.ref z0]) X V (mX8_init l D dA s0 hk_4) q864 q865 q138 q866 rfl hsX8_init ⟨Nat.le_of_ble_eq_true rfl, Nat.le_of_ble_eq_true rfl⟩ rfl hl.1 rfl (Nat.le_of_ble_eq_true rfl) dX6_opens_17 ⟨by show cells ≤ kc; omega, by show slots ≤ ks; omega⟩ (fun H locs V => W.eq (g2 := F0 m 20 ls [.ref z0]) rfl ?_)
  replace hf := tg_s hf; obtain ⟨ht5, hf⟩ := hf
  refine vx_athrow (pc := 20) hx hb dX6_opens_20 ?_
  cases hf
  exact y_out X V htE okX8 ht5 (by omega) (by omega)
set_option maxHeartbeats 400000 in
set_option maxRecDepth 100000 in
theorem zX6_opens_rX7 {nf : Nat} {dA : Nat → ClassId} {T : xT} {N : xT} {Z : Nat} {S : Nat} {I : xI} {R : xR} {x0 : Nat} {ro : (Nat ⊕ Unit)} {To : xT} {No : xT} {Zo : Nat} {So : Nat} {Io : xI} {Ro : xR} (hf : fX6_opens_rX7 nf (sv dA) T N Z S I R x0 = some (ro, To, No, Zo, So, Io, Ro)) : Z ≤ Zo ∧ S ≤ So := by
  unfold fX6_opens_rX7 at hf
  replace hf := tg_s hf; obtain ⟨ht1, hf⟩ := hf
  rcases (Decidable.em ((I x0 6) = (ii 8))).symm with c2 | c2
  · replace hf := if_f hf c2
    replace hf := nm_s hf; obtain ⟨I3, hI3, hf⟩ := hf
    replace hf := bs hf; obtain ⟨I4, hk_5, hf⟩ := hf
    cases hf
    exact ⟨Nat.le_refl _, Nat.le_refl _⟩
  · replace hf := if_t hf c2
    replace hf := nm_s hf; obtain ⟨T6, hT6, hf⟩ := hf
    replace hf := nm_s hf; obtain ⟨Z7, hZ7, hf⟩ := hf
    replace hf := nm_s hf; obtain ⟨S8, hS8, hf⟩ := hf
    have hm := zX6_opens_rX7_b12 hf
    exact ⟨by omega, by omega⟩
set_option maxHeartbeats 400000 in
set_option maxRecDepth 100000 in
theorem wX6_opens_rX7_e {nf : Nat} {kc ks : Nat} {cells slots : Nat} {p : Program} {l : Launch} {e : Env} {s : State} {m : MethodId} {args : Array Value} {below : List Frame} {meth : Method} {c : Code} {D : va_G} {dA : Nat → ClassId} {s0 : Nat} {T : xT} {N : xT} {Z : Nat} {S : Nat} {I : xI} {L : xL} {R : xR} {H : Heap} {locs : List Loc} {ls : Array Slot} {x0 : Nat} {ro : (Nat ⊕ Unit)} {To : xT} {No : xT} {Zo : Nat} {So : Nat} {Io : xI} {Ro : xR} (X : Cx D dA s0 p m c cX6_opens 1 s args RX6 meth) (hr : meth.sig.returnType = none) (htE : c.exceptionTable.toList = []) (hf : fX6_opens_rX7 nf (sv dA) T N Z S I R x0 = some (ro, To, No, Zo, So, Io, Ro)) (V : Iv D dA s0 s T N Z I L R H locs) (hl : lv_has ls 1 [(0, .ref x0)]) (hB : cells + (Zo - Z) ≤ kc ∧ slots + (So - S) ≤ ks) : W p l e { frames := 4, cells := kc, slots := ks, locals := 89 } s m args below meth c H locs cells slots (vx_MQ below (yQ D dA s0 (rV ro) To No Zo Io L Ro) (yX D dA s0 (rV ro) To No Zo Io L Ro) args s kc ks (fun q => s0 ≤ q)) (F0 m 0 ls []) := by
  have hx := X.1.1
  have hb := X.1.2.1
  unfold fX6_opens_rX7 at hf
  refine lv_aload_n (pc := 0) hx hb dX6_opens_0 rfl (lv_at hl 0 rfl) ?_
  replace hf := tg_s hf; obtain ⟨ht1, hf⟩ := hf
  refine x_get (pc := 1) X V okX7 ht1 6 (by decide) q747 (v := .int (I x0 6)) rfl dX6_opens_1 ?_
  refine lv_bipush (pc := 4) (v := (ii 8)) hx hb dX6_opens_4 (by decide) ?_
  refine lv_icmp_ne (pc := 6) (tgt := 21) hx hb dX6_opens_6 (by decide) (fun c2 => ?_) (fun c2 => ?_)
  · replace hf := if_f hf c2
    refine lv_aload_n (pc := 21) hx hb dX6_opens_21 rfl (lv_at hl 0 rfl) ?_
    refine lv_dup (pc := 22) hx hb dX6_opens_22 rfl ?_
    refine x_get (pc := 23) X V okX7 ht1 6 (by decide) q747 (v := .int (I x0 6)) rfl dX6_opens_23 ?_
    refine lv_iconst (pc := 26) (v := (ii 1)) hx hb dX6_opens_26 (by decide) ?_
    refine lv_iadd (pc := 27) hx hb dX6_opens_27 ?_
    replace hf := nm_s hf; obtain ⟨I3, hI3, hf⟩ := hf
    refine x_puti (pc := 28) X V okX7 (by decide) ht1 6 (by decide) q747 (Or.inl rfl) hI3 (fun _ _ _ => rfl) rfl rfl dX6_opens_28 (fun H locs V => ?_)
    refine lv_aload_n (pc := 31) hx hb dX6_opens_31 rfl (lv_at hl 0 rfl) ?_
    replace hf := bs hf; obtain ⟨I4, hk_5, hf⟩ := hf
    refine x_callU (pc := 32) (As := []) (rest := []) X V (mX6_next_rX7 l D dA s0 hk_5) okX7 ht1 q776 q778 q779 q777 q133 q781 rfl hsX6_next_rX7 ⟨Nat.le_of_ble_eq_true rfl, Nat.le_of_ble_eq_true rfl⟩ rfl hl.1 rfl (Nat.le_of_ble_eq_true rfl) dX6_opens_32 ⟨by show cells ≤ kc; omega, by show slots ≤ ks; omega⟩ (fun H locs V => W.eq (g2 := F0 m 35 ls []) rfl ?_)
    cases hf
    exact y_vret (pc := 35) X V hr (by omega) (by omega) dX6_opens_35
  · replace hf := if_t hf c2
    replace hf := nm_s hf; obtain ⟨T6, hT6, hf⟩ := hf
    replace hf := nm_s hf; obtain ⟨Z7, hZ7, hf⟩ := hf
    replace hf := nm_s hf; obtain ⟨S8, hS8, hf⟩ := hf
    have hm := zX6_opens_rX7_b12 hf
    refine x_new (pc := 9) X V okX8 hT6 hZ7 q855 q856 q138 (by show _ ≤ kc; omega) (by show _ ≤ ks; omega) dX6_opens_9 (fun H V => ?_)
    exact wX6_opens_rX7_b12 X hr htE hf V (lv_sub hl [0] rfl) ⟨by omega, by omega⟩
theorem mX6_opens_rX7 {nf : Nat} (l : Launch) (D : va_G) (dA : Nat → ClassId) (s0 : Nat) {kc ks : Nat} {T : xT} {N : xT} {Z : Nat} {S : Nat} {I : xI} {L : xL} {R : xR} {x0 : Nat} {ro : (Nat ⊕ Unit)} {To : xT} {No : xT} {Zo : Nat} {So : Nat} {Io : xI} {Ro : xR} (hZ : Zo - Z ≤ kc) (hS : So - S ≤ ks) (hf : fX6_opens_rX7 nf (sv dA) T N Z S I R x0 = some (ro, To, No, Zo, So, Io, Ro)) : YMet l D dA s0 yX6_opens (ws_ yX6_opens cX6_opens 1 (none)) (4) (89) [.ref x0] T N Z I L R (rV ro) To No Zo Io L Ro kc ks :=
  y_start (own := RX6) rfl (by decide) (Nat.le_of_ble_eq_true rfl) (lv := [(0, .ref x0)]) rfl (fun p e s m below meth c ls X hr htE V hl => wX6_opens_rX7_e X hr htE hf V hl ⟨by omega, by omega⟩)
set_option maxHeartbeats 400000 in
set_option maxRecDepth 100000 in
theorem wX6_takes_rX7_e {nf : Nat} {p : Program} {l : Launch} {e : Env} {s : State} {m : MethodId} {args : Array Value} {below : List Frame} {meth : Method} {c : Code} {D : va_G} {dA : Nat → ClassId} {s0 : Nat} {T : xT} {N : xT} {Z : Nat} {I : xI} {L : xL} {R : xR} {H : Heap} {locs : List Loc} {ls : Array Slot} {x0 : Nat} {x1 : Nat} {ro : Int32} {Io : xI} (X : Cx D dA s0 p m c cX6_takes 3 s args RX6 meth) (hr : meth.sig.returnType = (some .boolean)) (hf : fX6_takes_rX7 nf (sv dA) T N I R x0 x1 = some (ro, Io)) (V : Iv D dA s0 s T N Z I L R H locs) (hl : lv_has ls 3 [(0, .ref x0), (1, .ref x1)]) : W p l e { frames := 6, cells := 0, slots := 0, locals := 128 } s m args below meth c H locs 0 0 (MQ below (xQ D dA s0 (some (.int ro)) T N Z Io L R) args s 0 0 (fun q => s0 ≤ q)) (F0 m 0 ls []) := by
  have hx := X.1.1
  have hb := X.1.2.1
  unfold fX6_takes_rX7 at hf
  refine lv_aload_n (pc := 0) hx hb dX6_takes_0 rfl (lv_at hl 0 rfl) ?_
  refine lv_aload_n (pc := 1) hx hb dX6_takes_1 rfl (lv_at hl 1 rfl) ?_
  replace hf := tg_s hf; obtain ⟨ht3, hf⟩ := hf
  replace hf := bs hf; obtain ⟨r1, hk_2, hf⟩ := hf
  refine x_callU (pc := 2) (As := [.ref x1]) (rest := []) X V (mX6_is_rX7 l D dA s0 hk_2) okX7 ht3 q916 q2222 q2223 q799 q133 q800 rfl hsX6_is_rX7 ⟨Nat.le_of_ble_eq_true rfl, Nat.le_of_ble_eq_true rfl⟩ rfl hl.1 rfl (Nat.le_of_ble_eq_true rfl) dX6_takes_2 ⟨Nat.zero_le _, Nat.zero_le _⟩ (fun H locs V => W.eq (g2 := F0 m 5 ls [.int r1]) rfl ?_)
  refine lv_istore_n (pc := 5) (lv' := [(2, .int r1), (0, .ref x0), (1, .ref x1)]) hx hb dX6_takes_5 rfl hl (by decide) rfl (fun ls hl => ?_)
  refine lv_iload_n (pc := 6) hx hb dX6_takes_6 rfl (lv_at hl 0 rfl) ?_
  refine lv_if_eq (pc := 7) (tgt := 14) hx hb dX6_takes_7 (by decide) (fun c4 => ?_) (fun c4 => ?_)
  · replace hf := if_t hf c4
    refine lv_iload_n (pc := 14) hx hb dX6_takes_14 rfl (lv_at hl 0 rfl) ?_
    replace hf := chk_s hf; obtain ⟨hz5, hf⟩ := hf
    cases hf
    exact x_zret (pc := 15) X V hr hz5 dX6_takes_15
  · replace hf := if_f hf c4
    refine lv_aload_n (pc := 10) hx hb dX6_takes_10 rfl (lv_at hl 1 rfl) ?_
    replace hf := bs hf; obtain ⟨I6, hk_7, hf⟩ := hf
    refine x_callU (pc := 11) (As := []) (rest := []) X V (mX6_next_rX7 l D dA s0 hk_7) okX7 ht3 q776 q778 q779 q777 q133 q781 rfl hsX6_next_rX7 ⟨Nat.le_of_ble_eq_true rfl, Nat.le_of_ble_eq_true rfl⟩ rfl hl.1 rfl (Nat.le_of_ble_eq_true rfl) dX6_takes_11 ⟨Nat.zero_le _, Nat.zero_le _⟩ (fun H locs V => W.eq (g2 := F0 m 14 ls []) rfl ?_)
    refine lv_iload_n (pc := 14) hx hb dX6_takes_14 rfl (lv_at hl 0 rfl) ?_
    replace hf := chk_s hf; obtain ⟨hz8, hf⟩ := hf
    cases hf
    exact x_zret (pc := 15) X V hr hz8 dX6_takes_15
theorem mX6_takes_rX7 {nf : Nat} (l : Launch) (D : va_G) (dA : Nat → ClassId) (s0 : Nat) {T : xT} {N : xT} {Z : Nat} {I : xI} {L : xL} {R : xR} {x0 : Nat} {x1 : Nat} {ro : Int32} {Io : xI} (hf : fX6_takes_rX7 nf (sv dA) T N I R x0 x1 = some (ro, Io)) : XMet l D dA s0 yX6_takes (ws_ yX6_takes cX6_takes 3 ((some .boolean))) (6) (128) [.ref x0, .ref x1] T N Z I L R (some (.int ro)) T N Z Io L R 0 0 :=
  x_start (own := RX6) rfl (by decide) (Nat.le_of_ble_eq_true rfl) (lv := [(0, .ref x0), (1, .ref x1)]) rfl (fun p e s m below meth c ls X hr hini V hl => wX6_takes_rX7_e X hr hf V hl)
set_option maxHeartbeats 400000 in
set_option maxRecDepth 100000 in
theorem zX6_need_rX7_b11 {nf : Nat} {dA : Nat → ClassId} {T : xT} {N : xT} {Z : Nat} {S : Nat} {I : xI} {R : xR}  {x0 : Nat} {z0 : Nat} {ro : (Nat ⊕ Unit)} {To : xT} {No : xT} {Zo : Nat} {So : Nat} {Io : xI} {Ro : xR}  (hf : fX6_need_rX7_b11 nf (sv dA) T N Z S I R x0 z0 = some (ro, To, No, Zo, So, Io, Ro)) : Z ≤ Zo ∧ S ≤ So := by
  unfold fX6_need_rX7_b11 at hf
  replace hf := tg_s hf; obtain ⟨ht1, hf⟩ := hf
  replace hf := b2s hf; obtain ⟨I2, R3, hk_4, hf⟩ := hf
  replace hf := tg_s hf; obtain ⟨ht5, hf⟩ := hf
  cases hf
  exact ⟨Nat.le_refl _, Nat.le_refl _⟩
set_option maxHeartbeats 400000 in
set_option maxRecDepth 100000 in
theorem wX6_need_rX7_b11 {nf : Nat} {kc ks : Nat} {cells slots : Nat} {p : Program} {l : Launch} {e : Env} {s : State} {m : MethodId} {args : Array Value} {below : List Frame} {meth : Method} {c : Code} {D : va_G} {dA : Nat → ClassId} {s0 : Nat} {T : xT} {N : xT} {Z : Nat} {S : Nat} {I : xI} {L : xL} {R : xR} {H : Heap} {locs : List Loc} {ls : Array Slot}  {x0 : Nat} {z0 : Nat} {ro : (Nat ⊕ Unit)} {To : xT} {No : xT} {Zo : Nat} {So : Nat} {Io : xI} {Ro : xR} (X : Cx D dA s0 p m c cX6_need 2 s args RX6 meth) (hr : meth.sig.returnType = none) (htE : c.exceptionTable.toList = [])   (hf : fX6_need_rX7_b11 nf (sv dA) T N Z S I R x0 z0 = some (ro, To, No, Zo, So, Io, Ro)) (V : Iv D dA s0 s T N Z I L R H locs) (hl : lv_has ls 2 [(0, .ref x0)]) (hB : cells + (Zo - Z) ≤ kc ∧ slots + (So - S) ≤ ks) : W p l e { frames := 7, cells := kc, slots := ks, locals := 150 } s m args below meth c H locs cells slots (vx_MQ below (yQ D dA s0 (rV ro) To No Zo Io L Ro) (yX D dA s0 (rV ro) To No Zo Io L Ro) args s kc ks (fun q => s0 ≤ q)) (F0 m 11 ls [.ref z0]) := by
  have hx := X.1.1
  have hb := X.1.2.1
  unfold fX6_need_rX7_b11 at hf
  refine lv_dup (pc := 11) hx hb dX6_need_11 rfl ?_
  refine lv_aload_n (pc := 12) hx hb dX6_need_12 rfl (lv_at hl 0 rfl) ?_
  replace hf := tg_s hf; obtain ⟨ht1, hf⟩ := hf
  refine x_get (pc := 13) X V okX7 ht1 3 (by decide) q744 (v := .int (I x0 3)) rfl dX6_need_13 ?_
  replace hf := b2s hf; obtain ⟨I2, R3, hk_4, hf⟩ := hf
  refine x_callI0 (pc := 16) (As := [.int (I x0 3)]) (rest := [.ref z0]) X V (mX8_init l D dA s0 hk_4) q864 q865 q138 q866 rfl hsX8_init ⟨Nat.le_of_ble_eq_true rfl, Nat.le_of_ble_eq_true rfl⟩ rfl hl.1 rfl (Nat.le_of_ble_eq_true rfl) dX6_need_16 ⟨by show cells ≤ kc; omega, by show slots ≤ ks; omega⟩ (fun H locs V => W.eq (g2 := F0 m 19 ls [.ref z0]) rfl ?_)
  replace hf := tg_s hf; obtain ⟨ht5, hf⟩ := hf
  refine vx_athrow (pc := 19) hx hb dX6_need_19 ?_
  cases hf
  exact y_out X V htE okX8 ht5 (by omega) (by omega)
set_option maxHeartbeats 400000 in
set_option maxRecDepth 100000 in
theorem zX6_need_rX7 {nf : Nat} {dA : Nat → ClassId} {T : xT} {N : xT} {Z : Nat} {S : Nat} {I : xI} {R : xR} {x0 : Nat} {x1 : Nat} {ro : (Nat ⊕ Unit)} {To : xT} {No : xT} {Zo : Nat} {So : Nat} {Io : xI} {Ro : xR} (hf : fX6_need_rX7 nf (sv dA) T N Z S I R x0 x1 = some (ro, To, No, Zo, So, Io, Ro)) : Z ≤ Zo ∧ S ≤ So := by
  unfold fX6_need_rX7 at hf
  replace hf := tg_s hf; obtain ⟨ht4, hf⟩ := hf
  replace hf := b2s hf; obtain ⟨r1, I2, hk_3, hf⟩ := hf
  rcases (Decidable.em (r1 = (ii 0))).symm with c5 | c5
  · replace hf := if_f hf c5
    cases hf
    exact ⟨Nat.le_refl _, Nat.le_refl _⟩
  · replace hf := if_t hf c5
    replace hf := nm_s hf; obtain ⟨T6, hT6, hf⟩ := hf
    replace hf := nm_s hf; obtain ⟨Z7, hZ7, hf⟩ := hf
    replace hf := nm_s hf; obtain ⟨S8, hS8, hf⟩ := hf
    have hm := zX6_need_rX7_b11 hf
    exact ⟨by omega, by omega⟩
set_option maxHeartbeats 400000 in
set_option maxRecDepth 100000 in
theorem wX6_need_rX7_e {nf : Nat} {kc ks : Nat} {cells slots : Nat} {p : Program} {l : Launch} {e : Env} {s : State} {m : MethodId} {args : Array Value} {below : List Frame} {meth : Method} {c : Code} {D : va_G} {dA : Nat → ClassId} {s0 : Nat} {T : xT} {N : xT} {Z : Nat} {S : Nat} {I : xI} {L : xL} {R : xR} {H : Heap} {locs : List Loc} {ls : Array Slot} {x0 : Nat} {x1 : Nat} {ro : (Nat ⊕ Unit)} {To : xT} {No : xT} {Zo : Nat} {So : Nat} {Io : xI} {Ro : xR} (X : Cx D dA s0 p m c cX6_need 2 s args RX6 meth) (hr : meth.sig.returnType = none) (htE : c.exceptionTable.toList = []) (hf : fX6_need_rX7 nf (sv dA) T N Z S I R x0 x1 = some (ro, To, No, Zo, So, Io, Ro)) (V : Iv D dA s0 s T N Z I L R H locs) (hl : lv_has ls 2 [(0, .ref x0), (1, .ref x1)]) (hB : cells + (Zo - Z) ≤ kc ∧ slots + (So - S) ≤ ks) : W p l e { frames := 7, cells := kc, slots := ks, locals := 150 } s m args below meth c H locs cells slots (vx_MQ below (yQ D dA s0 (rV ro) To No Zo Io L Ro) (yX D dA s0 (rV ro) To No Zo Io L Ro) args s kc ks (fun q => s0 ≤ q)) (F0 m 0 ls []) := by
  have hx := X.1.1
  have hb := X.1.2.1
  unfold fX6_need_rX7 at hf
  refine lv_aload_n (pc := 0) hx hb dX6_need_0 rfl (lv_at hl 0 rfl) ?_
  refine lv_aload_n (pc := 1) hx hb dX6_need_1 rfl (lv_at hl 1 rfl) ?_
  replace hf := tg_s hf; obtain ⟨ht4, hf⟩ := hf
  replace hf := b2s hf; obtain ⟨r1, I2, hk_3, hf⟩ := hf
  refine x_callU (pc := 2) (As := [.ref x1]) (rest := []) X V (mX6_takes_rX7 l D dA s0 hk_3) okX7 ht4 q931 q933 q934 q932 q133 q936 rfl hsX6_takes_rX7 ⟨Nat.le_of_ble_eq_true rfl, Nat.le_of_ble_eq_true rfl⟩ rfl hl.1 rfl (Nat.le_of_ble_eq_true rfl) dX6_need_2 ⟨by show cells ≤ kc; omega, by show slots ≤ ks; omega⟩ (fun H locs V => W.eq (g2 := F0 m 5 ls [.int r1]) rfl ?_)
  refine lv_if_ne (pc := 5) (tgt := 20) hx hb dX6_need_5 (by decide) (fun c5 => ?_) (fun c5 => ?_)
  · replace hf := if_f hf c5
    cases hf
    exact y_vret (pc := 20) X V hr (by omega) (by omega) dX6_need_20
  · replace hf := if_t hf c5
    replace hf := nm_s hf; obtain ⟨T6, hT6, hf⟩ := hf
    replace hf := nm_s hf; obtain ⟨Z7, hZ7, hf⟩ := hf
    replace hf := nm_s hf; obtain ⟨S8, hS8, hf⟩ := hf
    have hm := zX6_need_rX7_b11 hf
    refine x_new (pc := 8) X V okX8 hT6 hZ7 q855 q856 q138 (by show _ ≤ kc; omega) (by show _ ≤ ks; omega) dX6_need_8 (fun H V => ?_)
    exact wX6_need_rX7_b11 X hr htE hf V (lv_sub hl [0] rfl) ⟨by omega, by omega⟩
theorem mX6_need_rX7 {nf : Nat} (l : Launch) (D : va_G) (dA : Nat → ClassId) (s0 : Nat) {kc ks : Nat} {T : xT} {N : xT} {Z : Nat} {S : Nat} {I : xI} {L : xL} {R : xR} {x0 : Nat} {x1 : Nat} {ro : (Nat ⊕ Unit)} {To : xT} {No : xT} {Zo : Nat} {So : Nat} {Io : xI} {Ro : xR} (hZ : Zo - Z ≤ kc) (hS : So - S ≤ ks) (hf : fX6_need_rX7 nf (sv dA) T N Z S I R x0 x1 = some (ro, To, No, Zo, So, Io, Ro)) : YMet l D dA s0 yX6_need (ws_ yX6_need cX6_need 2 (none)) (7) (150) [.ref x0, .ref x1] T N Z I L R (rV ro) To No Zo Io L Ro kc ks :=
  y_start (own := RX6) rfl (by decide) (Nat.le_of_ble_eq_true rfl) (lv := [(0, .ref x0), (1, .ref x1)]) rfl (fun p e s m below meth c ls X hr htE V hl => wX6_need_rX7_e X hr htE hf V hl ⟨by omega, by omega⟩)
set_option maxHeartbeats 400000 in
set_option maxRecDepth 100000 in
theorem zX6_leaf_rX7_b12 {dA : Nat → ClassId} {T : xT} {N : xT} {Z : Nat} {S : Nat} {I : xI} {R : xR}  {x0 : Nat} {z0 : Nat} {ro : (Nat ⊕ Unit)} {To : xT} {No : xT} {Zo : Nat} {So : Nat} {Io : xI} {Ro : xR}  (hf : fX6_leaf_rX7_b12 (sv dA) T N Z S I R x0 z0 = some (ro, To, No, Zo, So, Io, Ro)) : Z ≤ Zo ∧ S ≤ So := by
  unfold fX6_leaf_rX7_b12 at hf
  replace hf := tg_s hf; obtain ⟨ht1, hf⟩ := hf
  replace hf := b2s hf; obtain ⟨I2, R3, hk_4, hf⟩ := hf
  replace hf := tg_s hf; obtain ⟨ht5, hf⟩ := hf
  cases hf
  exact ⟨Nat.le_refl _, Nat.le_refl _⟩
set_option maxHeartbeats 400000 in
set_option maxRecDepth 100000 in
theorem wX6_leaf_rX7_b12 {kc ks : Nat} {cells slots : Nat} {p : Program} {l : Launch} {e : Env} {s : State} {m : MethodId} {args : Array Value} {below : List Frame} {meth : Method} {c : Code} {D : va_G} {dA : Nat → ClassId} {s0 : Nat} {T : xT} {N : xT} {Z : Nat} {S : Nat} {I : xI} {L : xL} {R : xR} {H : Heap} {locs : List Loc} {ls : Array Slot}  {x0 : Nat} {z0 : Nat} {ro : (Nat ⊕ Unit)} {To : xT} {No : xT} {Zo : Nat} {So : Nat} {Io : xI} {Ro : xR} (X : Cx D dA s0 p m c cX6_leaf 1 s args RX6 meth) (hr : meth.sig.returnType = none) (htE : c.exceptionTable.toList = [])   (hf : fX6_leaf_rX7_b12 (sv dA) T N Z S I R x0 z0 = some (ro, To, No, Zo, So, Io, Ro)) (V : Iv D dA s0 s T N Z I L R H locs) (hl : lv_has ls 1 [(0, .ref x0)]) (hB : cells + (Zo - Z) ≤ kc ∧ slots + (So - S) ≤ ks) : W p l e { frames := 4, cells := kc, slots := ks, locals := 89 } s m args below meth c H locs cells slots (vx_MQ below (yQ D dA s0 (rV ro) To No Zo Io L Ro) (yX D dA s0 (rV ro) To No Zo Io L Ro) args s kc ks (fun q => s0 ≤ q)) (F0 m 12 ls [.ref z0]) := by
  have hx := X.1.1
  have hb := X.1.2.1
  unfold fX6_leaf_rX7_b12 at hf
  refine lv_dup (pc := 12) hx hb dX6_leaf_12 rfl ?_
  refine lv_aload_n (pc := 13) hx hb dX6_leaf_13 rfl (lv_at hl 0 rfl) ?_
  replace hf := tg_s hf; obtain ⟨ht1, hf⟩ := hf
  refine x_get (pc := 14) X V okX7 ht1 3 (by decide) q744 (v := .int (I x0 3)) rfl dX6_leaf_14 ?_
  replace hf := b2s hf; obtain ⟨I2, R3, hk_4, hf⟩ := hf
  refine x_callI0 (pc := 17) (As := [.int (I x0 3)]) (rest := [.ref z0]) X V (mX8_init l D dA s0 hk_4) q864 q865 q138 q866 rfl hsX8_init ⟨Nat.le_of_ble_eq_true rfl, Nat.le_of_ble_eq_true rfl⟩ rfl hl.1 rfl (Nat.le_of_ble_eq_true rfl) dX6_leaf_17 ⟨by show cells ≤ kc; omega, by show slots ≤ ks; omega⟩ (fun H locs V => W.eq (g2 := F0 m 20 ls [.ref z0]) rfl ?_)
  replace hf := tg_s hf; obtain ⟨ht5, hf⟩ := hf
  refine vx_athrow (pc := 20) hx hb dX6_leaf_20 ?_
  cases hf
  exact y_out X V htE okX8 ht5 (by omega) (by omega)
set_option maxHeartbeats 400000 in
set_option maxRecDepth 100000 in
theorem zX6_leaf_rX7 {dA : Nat → ClassId} {T : xT} {N : xT} {Z : Nat} {S : Nat} {I : xI} {R : xR} {x0 : Nat} {ro : (Nat ⊕ Unit)} {To : xT} {No : xT} {Zo : Nat} {So : Nat} {Io : xI} {Ro : xR} (hf : fX6_leaf_rX7 (sv dA) T N Z S I R x0 = some (ro, To, No, Zo, So, Io, Ro)) : Z ≤ Zo ∧ S ≤ So := by
  unfold fX6_leaf_rX7 at hf
  replace hf := tg_s hf; obtain ⟨ht1, hf⟩ := hf
  rcases (Decidable.em ((I x0 5) = (ii 50))).symm with c2 | c2
  · replace hf := if_f hf c2
    replace hf := nm_s hf; obtain ⟨I3, hI3, hf⟩ := hf
    cases hf
    exact ⟨Nat.le_refl _, Nat.le_refl _⟩
  · replace hf := if_t hf c2
    replace hf := nm_s hf; obtain ⟨T4, hT4, hf⟩ := hf
    replace hf := nm_s hf; obtain ⟨Z5, hZ5, hf⟩ := hf
    replace hf := nm_s hf; obtain ⟨S6, hS6, hf⟩ := hf
    have hm := zX6_leaf_rX7_b12 hf
    exact ⟨by omega, by omega⟩
set_option maxHeartbeats 400000 in
set_option maxRecDepth 100000 in
theorem wX6_leaf_rX7_e {kc ks : Nat} {cells slots : Nat} {p : Program} {l : Launch} {e : Env} {s : State} {m : MethodId} {args : Array Value} {below : List Frame} {meth : Method} {c : Code} {D : va_G} {dA : Nat → ClassId} {s0 : Nat} {T : xT} {N : xT} {Z : Nat} {S : Nat} {I : xI} {L : xL} {R : xR} {H : Heap} {locs : List Loc} {ls : Array Slot} {x0 : Nat} {ro : (Nat ⊕ Unit)} {To : xT} {No : xT} {Zo : Nat} {So : Nat} {Io : xI} {Ro : xR} (X : Cx D dA s0 p m c cX6_leaf 1 s args RX6 meth) (hr : meth.sig.returnType = none) (htE : c.exceptionTable.toList = []) (hf : fX6_leaf_rX7 (sv dA) T N Z S I R x0 = some (ro, To, No, Zo, So, Io, Ro)) (V : Iv D dA s0 s T N Z I L R H locs) (hl : lv_has ls 1 [(0, .ref x0)]) (hB : cells + (Zo - Z) ≤ kc ∧ slots + (So - S) ≤ ks) : W p l e { frames := 4, cells := kc, slots := ks, locals := 89 } s m args below meth c H locs cells slots (vx_MQ below (yQ D dA s0 (rV ro) To No Zo Io L Ro) (yX D dA s0 (rV ro) To No Zo Io L Ro) args s kc ks (fun q => s0 ≤ q)) (F0 m 0 ls []) := by
  have hx := X.1.1
  have hb := X.1.2.1
  unfold fX6_leaf_rX7 at hf
  refine lv_aload_n (pc := 0) hx hb dX6_leaf_0 rfl (lv_at hl 0 rfl) ?_
  replace hf := tg_s hf; obtain ⟨ht1, hf⟩ := hf
  refine x_get (pc := 1) X V okX7 ht1 5 (by decide) q746 (v := .int (I x0 5)) rfl dX6_leaf_1 ?_
  refine lv_bipush (pc := 4) (v := (ii 50)) hx hb dX6_leaf_4 (by decide) ?_
  refine lv_icmp_ne (pc := 6) (tgt := 21) hx hb dX6_leaf_6 (by decide) (fun c2 => ?_) (fun c2 => ?_)
  · replace hf := if_f hf c2
    refine lv_aload_n (pc := 21) hx hb dX6_leaf_21 rfl (lv_at hl 0 rfl) ?_
    refine lv_dup (pc := 22) hx hb dX6_leaf_22 rfl ?_
    refine x_get (pc := 23) X V okX7 ht1 5 (by decide) q746 (v := .int (I x0 5)) rfl dX6_leaf_23 ?_
    refine lv_iconst (pc := 26) (v := (ii 1)) hx hb dX6_leaf_26 (by decide) ?_
    refine lv_iadd (pc := 27) hx hb dX6_leaf_27 ?_
    replace hf := nm_s hf; obtain ⟨I3, hI3, hf⟩ := hf
    refine x_puti (pc := 28) X V okX7 (by decide) ht1 5 (by decide) q746 (Or.inl rfl) hI3 (fun _ _ _ => rfl) rfl rfl dX6_leaf_28 (fun H locs V => ?_)
    cases hf
    exact y_vret (pc := 31) X V hr (by omega) (by omega) dX6_leaf_31
  · replace hf := if_t hf c2
    replace hf := nm_s hf; obtain ⟨T4, hT4, hf⟩ := hf
    replace hf := nm_s hf; obtain ⟨Z5, hZ5, hf⟩ := hf
    replace hf := nm_s hf; obtain ⟨S6, hS6, hf⟩ := hf
    have hm := zX6_leaf_rX7_b12 hf
    refine x_new (pc := 9) X V okX8 hT4 hZ5 q855 q856 q138 (by show _ ≤ kc; omega) (by show _ ≤ ks; omega) dX6_leaf_9 (fun H V => ?_)
    exact wX6_leaf_rX7_b12 X hr htE hf V (lv_sub hl [0] rfl) ⟨by omega, by omega⟩
theorem mX6_leaf_rX7 (l : Launch) (D : va_G) (dA : Nat → ClassId) (s0 : Nat) {kc ks : Nat} {T : xT} {N : xT} {Z : Nat} {S : Nat} {I : xI} {L : xL} {R : xR} {x0 : Nat} {ro : (Nat ⊕ Unit)} {To : xT} {No : xT} {Zo : Nat} {So : Nat} {Io : xI} {Ro : xR} (hZ : Zo - Z ≤ kc) (hS : So - S ≤ ks) (hf : fX6_leaf_rX7 (sv dA) T N Z S I R x0 = some (ro, To, No, Zo, So, Io, Ro)) : YMet l D dA s0 yX6_leaf (ws_ yX6_leaf cX6_leaf 1 (none)) (4) (89) [.ref x0] T N Z I L R (rV ro) To No Zo Io L Ro kc ks :=
  y_start (own := RX6) rfl (by decide) (Nat.le_of_ble_eq_true rfl) (lv := [(0, .ref x0)]) rfl (fun p e s m below meth c ls X hr htE V hl => wX6_leaf_rX7_e X hr htE hf V hl ⟨by omega, by omega⟩)
set_option maxHeartbeats 400000 in
set_option maxRecDepth 100000 in
theorem zX6_number_rX7_b84 {nf : Nat} {dA : Nat → ClassId} {T : xT} {N : xT} {Z : Nat} {S : Nat} {I : xI} {R : xR}  {x0 : Nat} {z0 : Nat} {ro : (Nat ⊕ Int32)} {To : xT} {No : xT} {Zo : Nat} {So : Nat} {Io : xI} {Ro : xR}  (hf : fX6_number_rX7_b84 nf (sv dA) T N Z S I R x0 z0 = some (ro, To, No, Zo, So, Io, Ro)) : Z ≤ Zo ∧ S ≤ So := by
  unfold fX6_number_rX7_b84 at hf
  replace hf := tg_s hf; obtain ⟨ht1, hf⟩ := hf
  replace hf := b2s hf; obtain ⟨I2, R3, hk_4, hf⟩ := hf
  replace hf := tg_s hf; obtain ⟨ht5, hf⟩ := hf
  cases hf
  exact ⟨Nat.le_refl _, Nat.le_refl _⟩
set_option maxHeartbeats 400000 in
set_option maxRecDepth 100000 in
theorem wX6_number_rX7_b84 {nf : Nat} {kc ks : Nat} {cells slots : Nat} {p : Program} {l : Launch} {e : Env} {s : State} {m : MethodId} {args : Array Value} {below : List Frame} {meth : Method} {c : Code} {D : va_G} {dA : Nat → ClassId} {s0 : Nat} {T : xT} {N : xT} {Z : Nat} {S : Nat} {I : xI} {L : xL} {R : xR} {H : Heap} {locs : List Loc} {ls : Array Slot}  {x0 : Nat} {z0 : Nat} {ro : (Nat ⊕ Int32)} {To : xT} {No : xT} {Zo : Nat} {So : Nat} {Io : xI} {Ro : xR} (X : Cx D dA s0 p m c cX6_number 5 s args RX6 meth) (hr : meth.sig.returnType = (some .int)) (htE : c.exceptionTable.toList = [])   (hf : fX6_number_rX7_b84 nf (sv dA) T N Z S I R x0 z0 = some (ro, To, No, Zo, So, Io, Ro)) (V : Iv D dA s0 s T N Z I L R H locs) (hl : lv_has ls 5 [(0, .ref x0)]) (hB : cells + (Zo - Z) ≤ kc ∧ slots + (So - S) ≤ ks) : W p l e { frames := 4, cells := kc, slots := ks, locals := 89 } s m args below meth c H locs cells slots (vx_MQ below (yQ D dA s0 (rI ro) To No Zo Io L Ro) (yX D dA s0 (rI ro) To No Zo Io L Ro) args s kc ks (fun q => s0 ≤ q)) (F0 m 84 ls [.ref z0]) := by
  have hx := X.1.1
  have hb := X.1.2.1
  unfold fX6_number_rX7_b84 at hf
  refine lv_dup (pc := 84) hx hb dX6_number_84 rfl ?_
  refine lv_aload_n (pc := 85) hx hb dX6_number_85 rfl (lv_at hl 0 rfl) ?_
  replace hf := tg_s hf; obtain ⟨ht1, hf⟩ := hf
  refine x_get (pc := 86) X V okX7 ht1 3 (by decide) q744 (v := .int (I x0 3)) rfl dX6_number_86 ?_
  replace hf := b2s hf; obtain ⟨I2, R3, hk_4, hf⟩ := hf
  refine x_callI0 (pc := 89) (As := [.int (I x0 3)]) (rest := [.ref z0]) X V (mX8_init l D dA s0 hk_4) q864 q865 q138 q866 rfl hsX8_init ⟨Nat.le_of_ble_eq_true rfl, Nat.le_of_ble_eq_true rfl⟩ rfl hl.1 rfl (Nat.le_of_ble_eq_true rfl) dX6_number_89 ⟨by show cells ≤ kc; omega, by show slots ≤ ks; omega⟩ (fun H locs V => W.eq (g2 := F0 m 92 ls [.ref z0]) rfl ?_)
  replace hf := tg_s hf; obtain ⟨ht5, hf⟩ := hf
  refine vx_athrow (pc := 92) hx hb dX6_number_92 ?_
  cases hf
  exact y_out X V htE okX8 ht5 (by omega) (by omega)
set_option maxHeartbeats 400000 in
set_option maxRecDepth 100000 in
theorem zX6_number_rX7_b81 {nf : Nat} {dA : Nat → ClassId} {T : xT} {N : xT} {Z : Nat} {S : Nat} {I : xI} {R : xR}  {x0 : Nat} {ro : (Nat ⊕ Int32)} {To : xT} {No : xT} {Zo : Nat} {So : Nat} {Io : xI} {Ro : xR}  (hf : fX6_number_rX7_b81 nf (sv dA) T N Z S I R x0 = some (ro, To, No, Zo, So, Io, Ro)) : Z ≤ Zo ∧ S ≤ So := by
  unfold fX6_number_rX7_b81 at hf
  replace hf := nm_s hf; obtain ⟨T1, hT1, hf⟩ := hf
  replace hf := nm_s hf; obtain ⟨Z2, hZ2, hf⟩ := hf
  replace hf := nm_s hf; obtain ⟨S3, hS3, hf⟩ := hf
  have hm := zX6_number_rX7_b84 hf
  exact ⟨by omega, by omega⟩
set_option maxHeartbeats 400000 in
set_option maxRecDepth 100000 in
theorem wX6_number_rX7_b81 {nf : Nat} {kc ks : Nat} {cells slots : Nat} {p : Program} {l : Launch} {e : Env} {s : State} {m : MethodId} {args : Array Value} {below : List Frame} {meth : Method} {c : Code} {D : va_G} {dA : Nat → ClassId} {s0 : Nat} {T : xT} {N : xT} {Z : Nat} {S : Nat} {I : xI} {L : xL} {R : xR} {H : Heap} {locs : List Loc} {ls : Array Slot}  {x0 : Nat} {ro : (Nat ⊕ Int32)} {To : xT} {No : xT} {Zo : Nat} {So : Nat} {Io : xI} {Ro : xR} (X : Cx D dA s0 p m c cX6_number 5 s args RX6 meth) (hr : meth.sig.returnType = (some .int)) (htE : c.exceptionTable.toList = [])   (hf : fX6_number_rX7_b81 nf (sv dA) T N Z S I R x0 = some (ro, To, No, Zo, So, Io, Ro)) (V : Iv D dA s0 s T N Z I L R H locs) (hl : lv_has ls 5 [(0, .ref x0)]) (hB : cells + (Zo - Z) ≤ kc ∧ slots + (So - S) ≤ ks) : W p l e { frames := 4, cells := kc, slots := ks, locals := 89 } s m args below meth c H locs cells slots (vx_MQ below (yQ D dA s0 (rI ro) To No Zo Io L Ro) (yX D dA s0 (rI ro) To No Zo Io L Ro) args s kc ks (fun q => s0 ≤ q)) (F0 m 81 ls []) := by
  have hx := X.1.1
  have hb := X.1.2.1
  unfold fX6_number_rX7_b81 at hf
  replace hf := nm_s hf; obtain ⟨T1, hT1, hf⟩ := hf
  replace hf := nm_s hf; obtain ⟨Z2, hZ2, hf⟩ := hf
  replace hf := nm_s hf; obtain ⟨S3, hS3, hf⟩ := hf
  have hm := zX6_number_rX7_b84 hf
  refine x_new (pc := 81) X V okX8 hT1 hZ2 q855 q856 q138 (by show _ ≤ kc; omega) (by show _ ≤ ks; omega) dX6_number_81 (fun H V => ?_)
  exact wX6_number_rX7_b84 X hr htE hf V (lv_sub hl [0] rfl) ⟨by omega, by omega⟩
set_option maxHeartbeats 400000 in
set_option maxRecDepth 100000 in
theorem zX6_number_rX7_b71 {nf : Nat} {dA : Nat → ClassId} {T : xT} {N : xT} {Z : Nat} {S : Nat} {I : xI} {R : xR}  {x0 : Nat} {x1 : Int32} {x2 : Int32} {x3 : Int32} {ro : (Nat ⊕ Int32)} {To : xT} {No : xT} {Zo : Nat} {So : Nat} {Io : xI} {Ro : xR}  (hf : fX6_number_rX7_b71 nf (sv dA) T N Z S I R x0 x1 x2 x3 = some (ro, To, No, Zo, So, Io, Ro)) : Z ≤ Zo ∧ S ≤ So := by
  unfold fX6_number_rX7_b71 at hf
  rcases (Decidable.em (x3 < x1)) with c1 | c1
  · replace hf := if_t hf c1
    have hm := zX6_number_rX7_b81 hf
    exact ⟨by omega, by omega⟩
  · replace hf := if_f hf c1
    rcases (Decidable.em (x3 ≤ x2)) with c2 | c2
    · replace hf := if_t hf c2
      replace hf := tg_s hf; obtain ⟨ht5, hf⟩ := hf
      replace hf := bs hf; obtain ⟨I3, hk_4, hf⟩ := hf
      cases hf
      exact ⟨Nat.le_refl _, Nat.le_refl _⟩
    · replace hf := if_f hf c2
      have hm := zX6_number_rX7_b81 hf
      exact ⟨by omega, by omega⟩
set_option maxHeartbeats 400000 in
set_option maxRecDepth 100000 in
theorem wX6_number_rX7_b71 {nf : Nat} {kc ks : Nat} {cells slots : Nat} {p : Program} {l : Launch} {e : Env} {s : State} {m : MethodId} {args : Array Value} {below : List Frame} {meth : Method} {c : Code} {D : va_G} {dA : Nat → ClassId} {s0 : Nat} {T : xT} {N : xT} {Z : Nat} {S : Nat} {I : xI} {L : xL} {R : xR} {H : Heap} {locs : List Loc} {ls : Array Slot}  {x0 : Nat} {x1 : Int32} {x2 : Int32} {x3 : Int32} {ro : (Nat ⊕ Int32)} {To : xT} {No : xT} {Zo : Nat} {So : Nat} {Io : xI} {Ro : xR} (X : Cx D dA s0 p m c cX6_number 5 s args RX6 meth) (hr : meth.sig.returnType = (some .int)) (htE : c.exceptionTable.toList = [])   (hf : fX6_number_rX7_b71 nf (sv dA) T N Z S I R x0 x1 x2 x3 = some (ro, To, No, Zo, So, Io, Ro)) (V : Iv D dA s0 s T N Z I L R H locs) (hl : lv_has ls 5 [(0, .ref x0), (1, .int x1), (2, .int x2), (3, .int x3)]) (hB : cells + (Zo - Z) ≤ kc ∧ slots + (So - S) ≤ ks) : W p l e { frames := 4, cells := kc, slots := ks, locals := 89 } s m args below meth c H locs cells slots (vx_MQ below (yQ D dA s0 (rI ro) To No Zo Io L Ro) (yX D dA s0 (rI ro) To No Zo Io L Ro) args s kc ks (fun q => s0 ≤ q)) (F0 m 71 ls []) := by
  have hx := X.1.1
  have hb := X.1.2.1
  unfold fX6_number_rX7_b71 at hf
  refine lv_iload_n (pc := 71) hx hb dX6_number_71 rfl (lv_at hl 3 rfl) ?_
  refine lv_iload_n (pc := 72) hx hb dX6_number_72 rfl (lv_at hl 1 rfl) ?_
  refine lv_icmp_lt (pc := 73) (tgt := 81) hx hb dX6_number_73 (by decide) (fun c1 => ?_) (fun c1 => ?_)
  · replace hf := if_t hf c1
    exact wX6_number_rX7_b81 X hr htE hf V (lv_sub hl [0] rfl) ⟨by omega, by omega⟩
  · replace hf := if_f hf c1
    refine lv_iload_n (pc := 76) hx hb dX6_number_76 rfl (lv_at hl 3 rfl) ?_
    refine lv_iload_n (pc := 77) hx hb dX6_number_77 rfl (lv_at hl 2 rfl) ?_
    refine lv_icmp_le (pc := 78) (tgt := 93) hx hb dX6_number_78 (by decide) (fun c2 => ?_) (fun c2 => ?_)
    · replace hf := if_t hf c2
      refine lv_aload_n (pc := 93) hx hb dX6_number_93 rfl (lv_at hl 0 rfl) ?_
      replace hf := tg_s hf; obtain ⟨ht5, hf⟩ := hf
      replace hf := bs hf; obtain ⟨I3, hk_4, hf⟩ := hf
      refine x_callU (pc := 94) (As := []) (rest := []) X V (mX6_next_rX7 l D dA s0 hk_4) okX7 ht5 q776 q778 q779 q777 q133 q781 rfl hsX6_next_rX7 ⟨Nat.le_of_ble_eq_true rfl, Nat.le_of_ble_eq_true rfl⟩ rfl hl.1 rfl (Nat.le_of_ble_eq_true rfl) dX6_number_94 ⟨by show cells ≤ kc; omega, by show slots ≤ ks; omega⟩ (fun H locs V => W.eq (g2 := F0 m 97 ls []) rfl ?_)
      refine lv_iload_n (pc := 97) hx hb dX6_number_97 rfl (lv_at hl 3 rfl) ?_
      cases hf
      exact y_iret (pc := 98) X V hr (by omega) (by omega) dX6_number_98
    · replace hf := if_f hf c2
      exact wX6_number_rX7_b81 X hr htE hf V (lv_sub hl [0] rfl) ⟨by omega, by omega⟩
set_option maxHeartbeats 400000 in
set_option maxRecDepth 100000 in
theorem zX6_number_rX7_b35 {nf : Nat} {dA : Nat → ClassId}   {ro : (Nat ⊕ Int32)} {To : xT} {No : xT} {Zo : Nat} {So : Nat} {Io : xI} {Ro : xR}  (k : Nat) : ∀ {T : xT} {N : xT} {Z : Nat} {S : Nat} {I : xI} {R : xR} {x0 : Nat} {x1 : Int32} {x2 : Int32} {x3 : Int32} {x4 : Int32}, fX6_number_rX7_b35 nf (sv dA) k T N Z S I R x0 x1 x2 x3 x4 = some (ro, To, No, Zo, So, Io, Ro) → Z ≤ Zo ∧ S ≤ So := by
  induction k with
  | zero =>
    intro T N Z S I R x0 x1 x2 x3 x4 hf
    exact absurd (show none = some _ from hf) (fun q => nomatch q)
  | succ k ih =>
    intro T N Z S I R x0 x1 x2 x3 x4 hf
    rw [fX6_number_rX7_b35] at hf
    replace hf := tg_s hf; obtain ⟨ht1, hf⟩ := hf
    rcases (Decidable.em ((I x0 4) ≤ x4)) with c2 | c2
    · replace hf := if_t hf c2
      have hm := zX6_number_rX7_b71 hf
      exact ⟨by omega, by omega⟩
    · replace hf := if_f hf c2
      rcases (Decidable.em (x2 < x3)) with c3 | c3
      · replace hf := if_t hf c3
        have hm := zX6_number_rX7_b71 hf
        exact ⟨by omega, by omega⟩
      · replace hf := if_f hf c3
        replace hf := bs hf; obtain ⟨a4, ha4, hf⟩ := hf
        replace hf := rA_s hf; obtain ⟨j5, hjj5, htj5, hij5, hf⟩ := hf
        replace hf := nm_s hf; obtain ⟨u6, hu6, hf⟩ := hf
        replace hf := nm_s hf; obtain ⟨u7, hu7, hf⟩ := hf
        have hm := ih hf
        exact ⟨by omega, by omega⟩
set_option maxHeartbeats 400000 in
set_option maxRecDepth 100000 in
theorem wX6_number_rX7_b35 {nf : Nat} {kc ks : Nat} {p : Program} {l : Launch} {e : Env} {s : State} {m : MethodId} {args : Array Value} {below : List Frame} {meth : Method} {c : Code} {D : va_G} {dA : Nat → ClassId} {s0 : Nat} {L : xL}  {ro : (Nat ⊕ Int32)} {To : xT} {No : xT} {Zo : Nat} {So : Nat} {Io : xI} {Ro : xR} (X : Cx D dA s0 p m c cX6_number 5 s args RX6 meth) (hr : meth.sig.returnType = (some .int)) (htE : c.exceptionTable.toList = [])   (k : Nat) : ∀ {T : xT} {N : xT} {Z : Nat} {S : Nat} {I : xI} {R : xR} {x0 : Nat} {x1 : Int32} {x2 : Int32} {x3 : Int32} {x4 : Int32} {H : Heap} {locs : List Loc} {ls : Array Slot} {cells slots : Nat} , fX6_number_rX7_b35 nf (sv dA) k T N Z S I R x0 x1 x2 x3 x4 = some (ro, To, No, Zo, So, Io, Ro) → Iv D dA s0 s T N Z I L R H locs → lv_has ls 5 [(0, .ref x0), (1, .int x1), (2, .int x2), (3, .int x3), (4, .int x4)] → cells + (Zo - Z) ≤ kc ∧ slots + (So - S) ≤ ks → W p l e { frames := 4, cells := kc, slots := ks, locals := 89 } s m args below meth c H locs cells slots (vx_MQ below (yQ D dA s0 (rI ro) To No Zo Io L Ro) (yX D dA s0 (rI ro) To No Zo Io L Ro) args s kc ks (fun q => s0 ≤ q)) (F0 m 35 ls []) := by
  have hx := X.1.1
  have hb := X.1.2.1
  induction k with
  | zero =>
    intro T N Z S I R x0 x1 x2 x3 x4 H locs ls cells slots hf V hl hB
    exact absurd (show none = some _ from hf) (fun q => nomatch q)
  | succ k ih =>
    intro T N Z S I R x0 x1 x2 x3 x4 H locs ls cells slots hf V hl hB
    have ihm : ∀ {T : xT} {N : xT} {Z : Nat} {S : Nat} {I : xI} {R : xR} {x0 : Nat} {x1 : Int32} {x2 : Int32} {x3 : Int32} {x4 : Int32}, fX6_number_rX7_b35 nf (sv dA) k T N Z S I R x0 x1 x2 x3 x4 = some (ro, To, No, Zo, So, Io, Ro) → Z ≤ Zo ∧ S ≤ So := zX6_number_rX7_b35 k
    rw [fX6_number_rX7_b35] at hf
    refine lv_iload (pc := 35) hx hb dX6_number_35 (lv_at hl 4 rfl) ?_
    refine lv_aload_n (pc := 37) hx hb dX6_number_37 rfl (lv_at hl 0 rfl) ?_
    replace hf := tg_s hf; obtain ⟨ht1, hf⟩ := hf
    refine x_get (pc := 38) X V okX7 ht1 4 (by decide) q745 (v := .int (I x0 4)) rfl dX6_number_38 ?_
    refine lv_icmp_ge (pc := 41) (tgt := 71) hx hb dX6_number_41 (by decide) (fun c2 => ?_) (fun c2 => ?_)
    · replace hf := if_t hf c2
      exact wX6_number_rX7_b71 X hr htE hf V (lv_sub hl [0, 1, 2, 3] rfl) ⟨by omega, by omega⟩
    · replace hf := if_f hf c2
      refine lv_iload_n (pc := 44) hx hb dX6_number_44 rfl (lv_at hl 3 rfl) ?_
      refine lv_iload_n (pc := 45) hx hb dX6_number_45 rfl (lv_at hl 2 rfl) ?_
      refine lv_icmp_gt (pc := 46) (tgt := 71) hx hb dX6_number_46 (by decide) (fun c3 => ?_) (fun c3 => ?_)
      · replace hf := if_t hf c3
        exact wX6_number_rX7_b71 X hr htE hf V (lv_sub hl [0, 1, 2, 3] rfl) ⟨by omega, by omega⟩
      · replace hf := if_f hf c3
        refine lv_bipush (pc := 49) (v := (ii 10)) hx hb dX6_number_49 (by decide) ?_
        refine lv_iload_n (pc := 51) hx hb dX6_number_51 rfl (lv_at hl 3 rfl) ?_
        refine lv_imul (pc := 52) hx hb dX6_number_52 ?_
        refine lv_aload_n (pc := 53) hx hb dX6_number_53 rfl (lv_at hl 0 rfl) ?_
        replace hf := bs hf; obtain ⟨a4, ha4, hf⟩ := hf
        refine x_get (pc := 54) X V okX7 ht1 0 (by decide) q741 (v := va_rf (R x0 0)) rfl dX6_number_54 ?_
        refine x_topr ha4 ?_
        refine lv_iload (pc := 57) hx hb dX6_number_57 (lv_at hl 4 rfl) ?_
        replace hf := rA_s hf; obtain ⟨j5, hjj5, htj5, hij5, hf⟩ := hf
        refine x_bald (pc := 59) X V htj5 hij5 hjj5 dX6_number_59 ?_
        refine lv_iadd (pc := 60) hx hb dX6_number_60 ?_
        refine lv_bipush (pc := 61) (v := (ii 48)) hx hb dX6_number_61 (by decide) ?_
        refine lv_isub (pc := 63) hx hb dX6_number_63 ?_
        replace hf := nm_s hf; obtain ⟨u6, hu6, hf⟩ := hf
        refine x_topi hu6 ?_
        refine lv_istore_n (pc := 64) (lv' := [(3, .int u6), (0, .ref x0), (1, .int x1), (2, .int x2), (4, .int x4)]) hx hb dX6_number_64 rfl hl (by decide) rfl (fun ls hl => ?_)
        replace hf := nm_s hf; obtain ⟨u7, hu7, hf⟩ := hf
        refine lv_iinc (pc := 65) (v := u7) (lv' := [(4, .int u7), (3, .int u6), (0, .ref x0), (1, .int x1), (2, .int x2)]) hx hb dX6_number_65 hl (k := 4) rfl (by rw [hu7]; rfl) (by decide) rfl (fun ls hl => ?_)
        refine lv_goto (pc := 68) (tgt := 35) hx hb dX6_number_68 (by decide) ?_
        exact ih hf V (lv_sub hl [2, 3, 4, 1, 0] rfl) ⟨by omega, by omega⟩
set_option maxHeartbeats 400000 in
set_option maxRecDepth 100000 in
theorem zX6_number_rX7_b18 {nf : Nat} {dA : Nat → ClassId} {T : xT} {N : xT} {Z : Nat} {S : Nat} {I : xI} {R : xR}  {x0 : Nat} {z0 : Nat} {ro : (Nat ⊕ Int32)} {To : xT} {No : xT} {Zo : Nat} {So : Nat} {Io : xI} {Ro : xR}  (hf : fX6_number_rX7_b18 nf (sv dA) T N Z S I R x0 z0 = some (ro, To, No, Zo, So, Io, Ro)) : Z ≤ Zo ∧ S ≤ So := by
  unfold fX6_number_rX7_b18 at hf
  replace hf := tg_s hf; obtain ⟨ht1, hf⟩ := hf
  replace hf := b2s hf; obtain ⟨I2, R3, hk_4, hf⟩ := hf
  replace hf := tg_s hf; obtain ⟨ht5, hf⟩ := hf
  cases hf
  exact ⟨Nat.le_refl _, Nat.le_refl _⟩
set_option maxHeartbeats 400000 in
set_option maxRecDepth 100000 in
theorem wX6_number_rX7_b18 {nf : Nat} {kc ks : Nat} {cells slots : Nat} {p : Program} {l : Launch} {e : Env} {s : State} {m : MethodId} {args : Array Value} {below : List Frame} {meth : Method} {c : Code} {D : va_G} {dA : Nat → ClassId} {s0 : Nat} {T : xT} {N : xT} {Z : Nat} {S : Nat} {I : xI} {L : xL} {R : xR} {H : Heap} {locs : List Loc} {ls : Array Slot}  {x0 : Nat} {z0 : Nat} {ro : (Nat ⊕ Int32)} {To : xT} {No : xT} {Zo : Nat} {So : Nat} {Io : xI} {Ro : xR} (X : Cx D dA s0 p m c cX6_number 5 s args RX6 meth) (hr : meth.sig.returnType = (some .int)) (htE : c.exceptionTable.toList = [])   (hf : fX6_number_rX7_b18 nf (sv dA) T N Z S I R x0 z0 = some (ro, To, No, Zo, So, Io, Ro)) (V : Iv D dA s0 s T N Z I L R H locs) (hl : lv_has ls 5 [(0, .ref x0)]) (hB : cells + (Zo - Z) ≤ kc ∧ slots + (So - S) ≤ ks) : W p l e { frames := 4, cells := kc, slots := ks, locals := 89 } s m args below meth c H locs cells slots (vx_MQ below (yQ D dA s0 (rI ro) To No Zo Io L Ro) (yX D dA s0 (rI ro) To No Zo Io L Ro) args s kc ks (fun q => s0 ≤ q)) (F0 m 18 ls [.ref z0]) := by
  have hx := X.1.1
  have hb := X.1.2.1
  unfold fX6_number_rX7_b18 at hf
  refine lv_dup (pc := 18) hx hb dX6_number_18 rfl ?_
  refine lv_aload_n (pc := 19) hx hb dX6_number_19 rfl (lv_at hl 0 rfl) ?_
  replace hf := tg_s hf; obtain ⟨ht1, hf⟩ := hf
  refine x_get (pc := 20) X V okX7 ht1 3 (by decide) q744 (v := .int (I x0 3)) rfl dX6_number_20 ?_
  replace hf := b2s hf; obtain ⟨I2, R3, hk_4, hf⟩ := hf
  refine x_callI0 (pc := 23) (As := [.int (I x0 3)]) (rest := [.ref z0]) X V (mX8_init l D dA s0 hk_4) q864 q865 q138 q866 rfl hsX8_init ⟨Nat.le_of_ble_eq_true rfl, Nat.le_of_ble_eq_true rfl⟩ rfl hl.1 rfl (Nat.le_of_ble_eq_true rfl) dX6_number_23 ⟨by show cells ≤ kc; omega, by show slots ≤ ks; omega⟩ (fun H locs V => W.eq (g2 := F0 m 26 ls [.ref z0]) rfl ?_)
  replace hf := tg_s hf; obtain ⟨ht5, hf⟩ := hf
  refine vx_athrow (pc := 26) hx hb dX6_number_26 ?_
  cases hf
  exact y_out X V htE okX8 ht5 (by omega) (by omega)
set_option maxHeartbeats 400000 in
set_option maxRecDepth 100000 in
theorem zX6_number_rX7 {nf : Nat} {dA : Nat → ClassId} {T : xT} {N : xT} {Z : Nat} {S : Nat} {I : xI} {R : xR} {x0 : Nat} {x1 : Int32} {x2 : Int32} {ro : (Nat ⊕ Int32)} {To : xT} {No : xT} {Zo : Nat} {So : Nat} {Io : xI} {Ro : xR} (hf : fX6_number_rX7 nf (sv dA) T N Z S I R x0 x1 x2 = some (ro, To, No, Zo, So, Io, Ro)) : Z ≤ Zo ∧ S ≤ So := by
  unfold fX6_number_rX7 at hf
  replace hf := tg_s hf; obtain ⟨ht1, hf⟩ := hf
  replace hf := bs hf; obtain ⟨r2, hk_3, hf⟩ := hf
  rcases (Decidable.em (r2 = (ii 0))).symm with c4 | c4
  · replace hf := if_f hf c4
    replace hf := nm_s hf; obtain ⟨u5, hu5, hf⟩ := hf
    have hm := zX6_number_rX7_b35 nf hf
    exact ⟨by omega, by omega⟩
  · replace hf := if_t hf c4
    replace hf := nm_s hf; obtain ⟨T6, hT6, hf⟩ := hf
    replace hf := nm_s hf; obtain ⟨Z7, hZ7, hf⟩ := hf
    replace hf := nm_s hf; obtain ⟨S8, hS8, hf⟩ := hf
    have hm := zX6_number_rX7_b18 hf
    exact ⟨by omega, by omega⟩
set_option maxHeartbeats 400000 in
set_option maxRecDepth 100000 in
theorem wX6_number_rX7_e {nf : Nat} {kc ks : Nat} {cells slots : Nat} {p : Program} {l : Launch} {e : Env} {s : State} {m : MethodId} {args : Array Value} {below : List Frame} {meth : Method} {c : Code} {D : va_G} {dA : Nat → ClassId} {s0 : Nat} {T : xT} {N : xT} {Z : Nat} {S : Nat} {I : xI} {L : xL} {R : xR} {H : Heap} {locs : List Loc} {ls : Array Slot} {x0 : Nat} {x1 : Int32} {x2 : Int32} {ro : (Nat ⊕ Int32)} {To : xT} {No : xT} {Zo : Nat} {So : Nat} {Io : xI} {Ro : xR} (X : Cx D dA s0 p m c cX6_number 5 s args RX6 meth) (hr : meth.sig.returnType = (some .int)) (htE : c.exceptionTable.toList = []) (hf : fX6_number_rX7 nf (sv dA) T N Z S I R x0 x1 x2 = some (ro, To, No, Zo, So, Io, Ro)) (V : Iv D dA s0 s T N Z I L R H locs) (hl : lv_has ls 5 [(0, .ref x0), (1, .int x1), (2, .int x2)]) (hB : cells + (Zo - Z) ≤ kc ∧ slots + (So - S) ≤ ks) : W p l e { frames := 4, cells := kc, slots := ks, locals := 89 } s m args below meth c H locs cells slots (vx_MQ below (yQ D dA s0 (rI ro) To No Zo Io L Ro) (yX D dA s0 (rI ro) To No Zo Io L Ro) args s kc ks (fun q => s0 ≤ q)) (F0 m 0 ls []) := by
  have hx := X.1.1
  have hb := X.1.2.1
  unfold fX6_number_rX7 at hf
  refine lv_aload_n (pc := 0) hx hb dX6_number_0 rfl (lv_at hl 0 rfl) ?_
  refine lv_aload_n (pc := 1) hx hb dX6_number_1 rfl (lv_at hl 0 rfl) ?_
  replace hf := tg_s hf; obtain ⟨ht1, hf⟩ := hf
  refine x_get (pc := 2) X V okX7 ht1 3 (by decide) q744 (v := .int (I x0 3)) rfl dX6_number_2 ?_
  refine lv_bipush (pc := 5) (v := (ii 48)) hx hb dX6_number_5 (by decide) ?_
  refine lv_bipush (pc := 7) (v := (ii 57)) hx hb dX6_number_7 (by decide) ?_
  replace hf := bs hf; obtain ⟨r2, hk_3, hf⟩ := hf
  refine x_callU (pc := 9) (As := [.int (I x0 3), .int (ii 48), .int (ii 57)]) (rest := []) X V (mX6_isIn_rX7 l D dA s0 hk_3) okX7 ht1 q782 q784 q785 q783 q133 q787 rfl hsX6_isIn_rX7 ⟨Nat.le_of_ble_eq_true rfl, Nat.le_of_ble_eq_true rfl⟩ rfl hl.1 rfl (Nat.le_of_ble_eq_true rfl) dX6_number_9 ⟨by show cells ≤ kc; omega, by show slots ≤ ks; omega⟩ (fun H locs V => W.eq (g2 := F0 m 12 ls [.int r2]) rfl ?_)
  refine lv_if_ne (pc := 12) (tgt := 27) hx hb dX6_number_12 (by decide) (fun c4 => ?_) (fun c4 => ?_)
  · replace hf := if_f hf c4
    refine lv_iconst (pc := 27) (v := (ii 0)) hx hb dX6_number_27 (by decide) ?_
    refine lv_istore_n (pc := 28) (lv' := [(3, .int (ii 0)), (0, .ref x0), (1, .int x1), (2, .int x2)]) hx hb dX6_number_28 rfl hl (by decide) rfl (fun ls hl => ?_)
    refine lv_aload_n (pc := 29) hx hb dX6_number_29 rfl (lv_at hl 1 rfl) ?_
    refine x_get (pc := 30) X V okX7 ht1 3 (by decide) q744 (v := .int (I x0 3)) rfl dX6_number_30 ?_
    replace hf := nm_s hf; obtain ⟨u5, hu5, hf⟩ := hf
    refine x_topi hu5 ?_
    refine lv_istore (pc := 33) (lv' := [(4, .int u5), (3, .int (ii 0)), (0, .ref x0), (1, .int x1), (2, .int x2)]) hx hb dX6_number_33 hl (by decide) rfl (fun ls hl => ?_)
    exact wX6_number_rX7_b35 X hr htE nf hf V (lv_sub hl [2, 3, 4, 1, 0] rfl) ⟨by omega, by omega⟩
  · replace hf := if_t hf c4
    replace hf := nm_s hf; obtain ⟨T6, hT6, hf⟩ := hf
    replace hf := nm_s hf; obtain ⟨Z7, hZ7, hf⟩ := hf
    replace hf := nm_s hf; obtain ⟨S8, hS8, hf⟩ := hf
    have hm := zX6_number_rX7_b18 hf
    refine x_new (pc := 15) X V okX8 hT6 hZ7 q855 q856 q138 (by show _ ≤ kc; omega) (by show _ ≤ ks; omega) dX6_number_15 (fun H V => ?_)
    exact wX6_number_rX7_b18 X hr htE hf V (lv_sub hl [0] rfl) ⟨by omega, by omega⟩
theorem mX6_number_rX7 {nf : Nat} (l : Launch) (D : va_G) (dA : Nat → ClassId) (s0 : Nat) {kc ks : Nat} {T : xT} {N : xT} {Z : Nat} {S : Nat} {I : xI} {L : xL} {R : xR} {x0 : Nat} {x1 : Int32} {x2 : Int32} {ro : (Nat ⊕ Int32)} {To : xT} {No : xT} {Zo : Nat} {So : Nat} {Io : xI} {Ro : xR} (hZ : Zo - Z ≤ kc) (hS : So - S ≤ ks) (hf : fX6_number_rX7 nf (sv dA) T N Z S I R x0 x1 x2 = some (ro, To, No, Zo, So, Io, Ro)) : YMet l D dA s0 yX6_number (ws_ yX6_number cX6_number 5 ((some .int))) (4) (89) [.ref x0, .int x1, .int x2] T N Z I L R (rI ro) To No Zo Io L Ro kc ks :=
  y_start (own := RX6) rfl (by decide) (Nat.le_of_ble_eq_true rfl) (lv := [(0, .ref x0), (1, .int x1), (2, .int x2)]) rfl (fun p e s m below meth c ls X hr htE V hl => wX6_number_rX7_e X hr htE hf V hl ⟨by omega, by omega⟩)
