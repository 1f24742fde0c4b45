set_option maxHeartbeats 400000 in
set_option maxRecDepth 100000 in
theorem wX0_count_e {nf : Nat} {p : Program} {l : Launch} {e : Env} {s : State} {m : MethodId} {args : Array Value} {below : List Frame} {meth : Method} {c : Code} {D : va_G} {dA : Nat → ClassId} {s0 : Nat} {T : xT} {N : xT} {Z : Nat} {I : xI} {L : xL} {R : xR} {H : Heap} {locs : List Loc} {ls : Array Slot} {x0 : Nat} {x1 : Int32} {ro : Int32} (X : Cx D dA s0 p m c cX0_count 2 s args RX0 meth) (hr : meth.sig.returnType = (some .int)) (hf : fX0_count nf T N I R x0 x1 = some ro) (V : Iv D dA s0 s T N Z I L R H locs) (hl : lv_has ls 2 [(0, .ref x0), (1, .int x1)]) : W p l e { frames := 1, cells := 0, slots := 0, locals := 23 } s m args below meth c H locs 0 0 (MQ below (xQ D dA s0 (some (.int ro)) T N Z I L R) args s 0 0 (fun q => s0 ≤ q)) (F0 m 0 ls []) := by
  have hx := X.1.1
  have hb := X.1.2.1
  unfold fX0_count at hf
  refine lv_iload_n (pc := 0) hx hb dX0_count_0 rfl (lv_at hl 1 rfl) ?_
  by_cases c1 : x1 = (ii 0)
  · replace hf := if_t hf c1
    refine x_tswIn (pc := 1) (tgt := 80) (off := 79) hx hb c1 dX0_count_1 (by decide) (by decide) (by decide) (by decide) ?_
    refine lv_aload_n (pc := 80) hx hb dX0_count_80 rfl (lv_at hl 0 rfl) ?_
    replace hf := tg_s hf; obtain ⟨ht2, hf⟩ := hf
    replace hf := bs hf; obtain ⟨a3, ha3, hf⟩ := hf
    refine x_get (pc := 81) X V okX0 ht2 2 (by decide) q362 (v := va_rf (R x0 2)) rfl dX0_count_81 ?_
    refine x_topr ha3 ?_
    replace hf := tg_s hf; obtain ⟨ht4, hf⟩ := hf
    refine x_getN (pc := 84) X V okX1 ht4 8 (by decide) q238 (v := .int (I a3 8)) rfl dX0_count_84 ?_
    cases hf
    exact x_iret (pc := 87) X V hr dX0_count_87
  replace hf := if_f hf c1
  by_cases c5 : x1 = (ii 1)
  · replace hf := if_t hf c5
    refine x_tswIn (pc := 1) (tgt := 88) (off := 87) hx hb c5 dX0_count_1 (by decide) (by decide) (by decide) (by decide) ?_
    refine lv_aload_n (pc := 88) hx hb dX0_count_88 rfl (lv_at hl 0 rfl) ?_
    replace hf := tg_s hf; obtain ⟨ht6, hf⟩ := hf
    replace hf := bs hf; obtain ⟨a7, ha7, hf⟩ := hf
    refine x_get (pc := 89) X V okX0 ht6 2 (by decide) q362 (v := va_rf (R x0 2)) rfl dX0_count_89 ?_
    refine x_topr ha7 ?_
    replace hf := tg_s hf; obtain ⟨ht8, hf⟩ := hf
    refine x_getN (pc := 92) X V okX1 ht8 9 (by decide) q240 (v := .int (I a7 9)) rfl dX0_count_92 ?_
    cases hf
    exact x_iret (pc := 95) X V hr dX0_count_95
  replace hf := if_f hf c5
  by_cases c9 : x1 = (ii 2)
  · replace hf := if_t hf c9
    refine x_tswIn (pc := 1) (tgt := 96) (off := 95) hx hb c9 dX0_count_1 (by decide) (by decide) (by decide) (by decide) ?_
    refine lv_aload_n (pc := 96) hx hb dX0_count_96 rfl (lv_at hl 0 rfl) ?_
    replace hf := tg_s hf; obtain ⟨ht12, hf⟩ := hf
    replace hf := bs hf; obtain ⟨r10, hk_11, hf⟩ := hf
    refine x_callV0 (pc := 97) (As := []) (rest := []) X V (mX0_table l D dA s0 hk_11) okX0 ht12 q568 q570 qs6 q119 q571 ⟨rfl, hsX0_table⟩ ⟨Nat.le_of_ble_eq_true rfl, Nat.le_of_ble_eq_true rfl⟩ rfl hl.1 rfl (Nat.le_of_ble_eq_true rfl) dX0_count_97 ⟨Nat.zero_le _, Nat.zero_le _⟩ (fun H locs V => W.eq (g2 := F0 m 100 ls [.ref r10]) rfl ?_)
    refine lv_aload_n (pc := 100) hx hb dX0_count_100 rfl (lv_at hl 0 rfl) ?_
    replace hf := bs hf; obtain ⟨a13, ha13, hf⟩ := hf
    refine x_get (pc := 101) X V okX0 ht12 2 (by decide) q362 (v := va_rf (R x0 2)) rfl dX0_count_101 ?_
    refine x_topr ha13 ?_
    replace hf := tg_s hf; obtain ⟨ht14, hf⟩ := hf
    refine x_getN (pc := 104) X V okX1 ht14 8 (by decide) q238 (v := .int (I a13 8)) rfl dX0_count_104 ?_
    replace hf := tg_s hf; obtain ⟨ht17, hf⟩ := hf
    replace hf := bs hf; obtain ⟨r15, hk_16, hf⟩ := hf
    refine x_callV0 (pc := 107) (As := [.int (I a13 8)]) (rest := []) X V (mX2_namedOf l D dA s0 hk_16) okX2 ht17 q1447 q1448 q1449 q121 q1450 ⟨rfl, hsX2_namedOf⟩ ⟨Nat.le_of_ble_eq_true rfl, Nat.le_of_ble_eq_true rfl⟩ rfl hl.1 rfl (Nat.le_of_ble_eq_true rfl) dX0_count_107 ⟨Nat.zero_le _, Nat.zero_le _⟩ (fun H locs V => W.eq (g2 := F0 m 110 ls [.int r15]) rfl ?_)
    cases hf
    exact x_iret (pc := 110) X V hr dX0_count_110
  replace hf := if_f hf c9
  by_cases c18 : x1 = (ii 3)
  · replace hf := if_t hf c18
    refine x_tswIn (pc := 1) (tgt := 111) (off := 110) hx hb c18 dX0_count_1 (by decide) (by decide) (by decide) (by decide) ?_
    refine lv_aload_n (pc := 111) hx hb dX0_count_111 rfl (lv_at hl 0 rfl) ?_
    replace hf := tg_s hf; obtain ⟨ht19, hf⟩ := hf
    replace hf := bs hf; obtain ⟨a20, ha20, hf⟩ := hf
    refine x_get (pc := 112) X V okX0 ht19 2 (by decide) q362 (v := va_rf (R x0 2)) rfl dX0_count_112 ?_
    refine x_topr ha20 ?_
    replace hf := tg_s hf; obtain ⟨ht21, hf⟩ := hf
    refine x_getN (pc := 115) X V okX1 ht21 10 (by decide) q242 (v := .int (I a20 10)) rfl dX0_count_115 ?_
    cases hf
    exact x_iret (pc := 118) X V hr dX0_count_118
  replace hf := if_f hf c18
  by_cases c22 : x1 = (ii 4)
  · replace hf := if_t hf c22
    refine x_tswIn (pc := 1) (tgt := 119) (off := 118) hx hb c22 dX0_count_1 (by decide) (by decide) (by decide) (by decide) ?_
    refine lv_aload_n (pc := 119) hx hb dX0_count_119 rfl (lv_at hl 0 rfl) ?_
    replace hf := tg_s hf; obtain ⟨ht23, hf⟩ := hf
    replace hf := bs hf; obtain ⟨a24, ha24, hf⟩ := hf
    refine x_get (pc := 120) X V okX0 ht23 2 (by decide) q362 (v := va_rf (R x0 2)) rfl dX0_count_120 ?_
    refine x_topr ha24 ?_
    replace hf := tg_s hf; obtain ⟨ht25, hf⟩ := hf
    replace hf := bs hf; obtain ⟨a26, ha26, hf⟩ := hf
    refine x_getN (pc := 123) X V okX1 ht25 7 (by decide) q236 (v := va_rf (R a24 7)) rfl dX0_count_123 ?_
    refine x_topr ha26 ?_
    replace hf := tg_s hf; obtain ⟨ht29, hf⟩ := hf
    replace hf := bs hf; obtain ⟨r27, hk_28, hf⟩ := hf
    refine x_callV0 (pc := 126) (As := []) (rest := []) X V (mJ2_size l D dA s0 hk_28) okJ2 ht29 q727 q623 q624 q124 q625 ⟨rfl, hsJ2_size⟩ ⟨Nat.le_of_ble_eq_true rfl, Nat.le_of_ble_eq_true rfl⟩ rfl hl.1 rfl (Nat.le_of_ble_eq_true rfl) dX0_count_126 ⟨Nat.zero_le _, Nat.zero_le _⟩ (fun H locs V => W.eq (g2 := F0 m 129 ls [.int r27]) rfl ?_)
    cases hf
    exact x_iret (pc := 129) X V hr dX0_count_129
  replace hf := if_f hf c22
  by_cases c30 : x1 = (ii 5)
  · replace hf := if_t hf c30
    refine x_tswIn (pc := 1) (tgt := 130) (off := 129) hx hb c30 dX0_count_1 (by decide) (by decide) (by decide) (by decide) ?_
    refine lv_aload_n (pc := 130) hx hb dX0_count_130 rfl (lv_at hl 0 rfl) ?_
    replace hf := tg_s hf; obtain ⟨ht31, hf⟩ := hf
    refine x_get (pc := 131) X V okX0 ht31 15 (by decide) q375 (v := .int (I x0 15)) rfl dX0_count_131 ?_
    cases hf
    exact x_iret (pc := 134) X V hr dX0_count_134
  replace hf := if_f hf c30
  by_cases c32 : x1 = (ii 6)
  · replace hf := if_t hf c32
    refine x_tswIn (pc := 1) (tgt := 135) (off := 134) hx hb c32 dX0_count_1 (by decide) (by decide) (by decide) (by decide) ?_
    refine lv_aload_n (pc := 135) hx hb dX0_count_135 rfl (lv_at hl 0 rfl) ?_
    replace hf := tg_s hf; obtain ⟨ht33, hf⟩ := hf
    refine x_get (pc := 136) X V okX0 ht33 11 (by decide) q371 (v := .int (I x0 11)) rfl dX0_count_136 ?_
    cases hf
    exact x_iret (pc := 139) X V hr dX0_count_139
  replace hf := if_f hf c32
  by_cases c34 : x1 = (ii 7)
  · replace hf := if_t hf c34
    refine x_tswIn (pc := 1) (tgt := 140) (off := 139) hx hb c34 dX0_count_1 (by decide) (by decide) (by decide) (by decide) ?_
    refine lv_aload_n (pc := 140) hx hb dX0_count_140 rfl (lv_at hl 0 rfl) ?_
    replace hf := tg_s hf; obtain ⟨ht35, hf⟩ := hf
    replace hf := bs hf; obtain ⟨a36, ha36, hf⟩ := hf
    refine x_get (pc := 141) X V okX0 ht35 1 (by decide) q361 (v := va_rf (R x0 1)) rfl dX0_count_141 ?_
    refine x_topr ha36 ?_
    refine lv_iload_n (pc := 144) hx hb dX0_count_144 rfl (lv_at hl 1 rfl) ?_
    refine lv_bipush (pc := 145) (v := (ii 6)) hx hb dX0_count_145 (by decide) ?_
    refine lv_isub (pc := 147) hx hb dX0_count_147 ?_
    replace hf := rA_s hf; obtain ⟨j37, hjj37, htj37, hij37, hf⟩ := hf
    refine x_iald (pc := 148) X V htj37 hij37 hjj37 dX0_count_148 ?_
    cases hf
    exact x_iret (pc := 149) X V hr dX0_count_149
  replace hf := if_f hf c34
  by_cases c38 : x1 = (ii 8)
  · replace hf := if_t hf c38
    refine x_tswIn (pc := 1) (tgt := 140) (off := 139) hx hb c38 dX0_count_1 (by decide) (by decide) (by decide) (by decide) ?_
    refine lv_aload_n (pc := 140) hx hb dX0_count_140 rfl (lv_at hl 0 rfl) ?_
    replace hf := tg_s hf; obtain ⟨ht39, hf⟩ := hf
    replace hf := bs hf; obtain ⟨a40, ha40, hf⟩ := hf
    refine x_get (pc := 141) X V okX0 ht39 1 (by decide) q361 (v := va_rf (R x0 1)) rfl dX0_count_141 ?_
    refine x_topr ha40 ?_
    refine lv_iload_n (pc := 144) hx hb dX0_count_144 rfl (lv_at hl 1 rfl) ?_
    refine lv_bipush (pc := 145) (v := (ii 6)) hx hb dX0_count_145 (by decide) ?_
    refine lv_isub (pc := 147) hx hb dX0_count_147 ?_
    replace hf := rA_s hf; obtain ⟨j41, hjj41, htj41, hij41, hf⟩ := hf
    refine x_iald (pc := 148) X V htj41 hij41 hjj41 dX0_count_148 ?_
    cases hf
    exact x_iret (pc := 149) X V hr dX0_count_149
  replace hf := if_f hf c38
  by_cases c42 : x1 = (ii 9)
  · replace hf := if_t hf c42
    refine x_tswIn (pc := 1) (tgt := 140) (off := 139) hx hb c42 dX0_count_1 (by decide) (by decide) (by decide) (by decide) ?_
    refine lv_aload_n (pc := 140) hx hb dX0_count_140 rfl (lv_at hl 0 rfl) ?_
    replace hf := tg_s hf; obtain ⟨ht43, hf⟩ := hf
    replace hf := bs hf; obtain ⟨a44, ha44, hf⟩ := hf
    refine x_get (pc := 141) X V okX0 ht43 1 (by decide) q361 (v := va_rf (R x0 1)) rfl dX0_count_141 ?_
    refine x_topr ha44 ?_
    refine lv_iload_n (pc := 144) hx hb dX0_count_144 rfl (lv_at hl 1 rfl) ?_
    refine lv_bipush (pc := 145) (v := (ii 6)) hx hb dX0_count_145 (by decide) ?_
    refine lv_isub (pc := 147) hx hb dX0_count_147 ?_
    replace hf := rA_s hf; obtain ⟨j45, hjj45, htj45, hij45, hf⟩ := hf
    refine x_iald (pc := 148) X V htj45 hij45 hjj45 dX0_count_148 ?_
    cases hf
    exact x_iret (pc := 149) X V hr dX0_count_149
  replace hf := if_f hf c42
  by_cases c46 : x1 = (ii 10)
  · replace hf := if_t hf c46
    refine x_tswIn (pc := 1) (tgt := 150) (off := 149) hx hb c46 dX0_count_1 (by decide) (by decide) (by decide) (by decide) ?_
    refine lv_aload_n (pc := 150) hx hb dX0_count_150 rfl (lv_at hl 0 rfl) ?_
    replace hf := tg_s hf; obtain ⟨ht47, hf⟩ := hf
    replace hf := bs hf; obtain ⟨a48, ha48, hf⟩ := hf
    refine x_get (pc := 151) X V okX0 ht47 1 (by decide) q361 (v := va_rf (R x0 1)) rfl dX0_count_151 ?_
    refine x_topr ha48 ?_
    refine lv_iload_n (pc := 154) hx hb dX0_count_154 rfl (lv_at hl 1 rfl) ?_
    refine lv_iconst (pc := 155) (v := (ii 5)) hx hb dX0_count_155 (by decide) ?_
    refine lv_isub (pc := 156) hx hb dX0_count_156 ?_
    replace hf := rA_s hf; obtain ⟨j49, hjj49, htj49, hij49, hf⟩ := hf
    refine x_iald (pc := 157) X V htj49 hij49 hjj49 dX0_count_157 ?_
    cases hf
    exact x_iret (pc := 158) X V hr dX0_count_158
  replace hf := if_f hf c46
  by_cases c50 : x1 = (ii 11)
  · replace hf := if_t hf c50
    refine x_tswIn (pc := 1) (tgt := 150) (off := 149) hx hb c50 dX0_count_1 (by decide) (by decide) (by decide) (by decide) ?_
    refine lv_aload_n (pc := 150) hx hb dX0_count_150 rfl (lv_at hl 0 rfl) ?_
    replace hf := tg_s hf; obtain ⟨ht51, hf⟩ := hf
    replace hf := bs hf; obtain ⟨a52, ha52, hf⟩ := hf
    refine x_get (pc := 151) X V okX0 ht51 1 (by decide) q361 (v := va_rf (R x0 1)) rfl dX0_count_151 ?_
    refine x_topr ha52 ?_
    refine lv_iload_n (pc := 154) hx hb dX0_count_154 rfl (lv_at hl 1 rfl) ?_
    refine lv_iconst (pc := 155) (v := (ii 5)) hx hb dX0_count_155 (by decide) ?_
    refine lv_isub (pc := 156) hx hb dX0_count_156 ?_
    replace hf := rA_s hf; obtain ⟨j53, hjj53, htj53, hij53, hf⟩ := hf
    refine x_iald (pc := 157) X V htj53 hij53 hjj53 dX0_count_157 ?_
    cases hf
    exact x_iret (pc := 158) X V hr dX0_count_158
  replace hf := if_f hf c50
  by_cases c54 : x1 = (ii 12)
  · replace hf := if_t hf c54
    refine x_tswIn (pc := 1) (tgt := 159) (off := 158) hx hb c54 dX0_count_1 (by decide) (by decide) (by decide) (by decide) ?_
    refine lv_aload_n (pc := 159) hx hb dX0_count_159 rfl (lv_at hl 0 rfl) ?_
    replace hf := tg_s hf; obtain ⟨ht55, hf⟩ := hf
    replace hf := bs hf; obtain ⟨a56, ha56, hf⟩ := hf
    refine x_get (pc := 160) X V okX0 ht55 2 (by decide) q362 (v := va_rf (R x0 2)) rfl dX0_count_160 ?_
    refine x_topr ha56 ?_
    replace hf := tg_s hf; obtain ⟨ht57, hf⟩ := hf
    refine x_getN (pc := 163) X V okX1 ht57 13 (by decide) q248 (v := .int (I a56 13)) rfl dX0_count_163 ?_
    cases hf
    exact x_iret (pc := 166) X V hr dX0_count_166
  replace hf := if_f hf c54
  by_cases c58 : x1 = (ii 13)
  · replace hf := if_t hf c58
    refine x_tswIn (pc := 1) (tgt := 167) (off := 166) hx hb c58 dX0_count_1 (by decide) (by decide) (by decide) (by decide) ?_
    refine lv_aload_n (pc := 167) hx hb dX0_count_167 rfl (lv_at hl 0 rfl) ?_
    replace hf := tg_s hf; obtain ⟨ht61, hf⟩ := hf
    replace hf := bs hf; obtain ⟨r59, hk_60, hf⟩ := hf
    refine x_callV0 (pc := 168) (As := []) (rest := []) X V (mX0_table l D dA s0 hk_60) okX0 ht61 q568 q570 qs6 q119 q571 ⟨rfl, hsX0_table⟩ ⟨Nat.le_of_ble_eq_true rfl, Nat.le_of_ble_eq_true rfl⟩ rfl hl.1 rfl (Nat.le_of_ble_eq_true rfl) dX0_count_168 ⟨Nat.zero_le _, Nat.zero_le _⟩ (fun H locs V => W.eq (g2 := F0 m 171 ls [.ref r59]) rfl ?_)
    replace hf := tg_s hf; obtain ⟨ht62, hf⟩ := hf
    refine x_getN (pc := 171) X V okX2 ht62 3 (by decide) q182 (v := .int (I r59 3)) rfl dX0_count_171 ?_
    cases hf
    exact x_iret (pc := 174) X V hr dX0_count_174
  replace hf := if_f hf c58
  by_cases c63 : x1 = (ii 14)
  · replace hf := if_t hf c63
    refine x_tswIn (pc := 1) (tgt := 175) (off := 174) hx hb c63 dX0_count_1 (by decide) (by decide) (by decide) (by decide) ?_
    refine lv_aload_n (pc := 175) hx hb dX0_count_175 rfl (lv_at hl 0 rfl) ?_
    replace hf := tg_s hf; obtain ⟨ht64, hf⟩ := hf
    replace hf := bs hf; obtain ⟨a65, ha65, hf⟩ := hf
    refine x_get (pc := 176) X V okX0 ht64 2 (by decide) q362 (v := va_rf (R x0 2)) rfl dX0_count_176 ?_
    refine x_topr ha65 ?_
    replace hf := tg_s hf; obtain ⟨ht66, hf⟩ := hf
    refine x_getN (pc := 179) X V okX1 ht66 11 (by decide) q244 (v := .int (I a65 11)) rfl dX0_count_179 ?_
    cases hf
    exact x_iret (pc := 182) X V hr dX0_count_182
  replace hf := if_f hf c63
  by_cases c67 : x1 = (ii 15)
  · replace hf := if_t hf c67
    refine x_tswIn (pc := 1) (tgt := 183) (off := 182) hx hb c67 dX0_count_1 (by decide) (by decide) (by decide) (by decide) ?_
    refine lv_aload_n (pc := 183) hx hb dX0_count_183 rfl (lv_at hl 0 rfl) ?_
    replace hf := tg_s hf; obtain ⟨ht68, hf⟩ := hf
    replace hf := bs hf; obtain ⟨a69, ha69, hf⟩ := hf
    refine x_get (pc := 184) X V okX0 ht68 2 (by decide) q362 (v := va_rf (R x0 2)) rfl dX0_count_184 ?_
    refine x_topr ha69 ?_
    replace hf := tg_s hf; obtain ⟨ht70, hf⟩ := hf
    refine x_getN (pc := 187) X V okX1 ht70 12 (by decide) q246 (v := .int (I a69 12)) rfl dX0_count_187 ?_
    cases hf
    exact x_iret (pc := 190) X V hr dX0_count_190
  replace hf := if_f hf c67
  refine lv_tableOut (pc := 1) (tgt := 191) hx hb dX0_count_1 (by have qc1 := lv_neT c1 (a := 0) (by decide); have qc5 := lv_neT c5 (a := 1) (by decide); have qc9 := lv_neT c9 (a := 2) (by decide); have qc18 := lv_neT c18 (a := 3) (by decide); have qc22 := lv_neT c22 (a := 4) (by decide); have qc30 := lv_neT c30 (a := 5) (by decide); have qc32 := lv_neT c32 (a := 6) (by decide); have qc34 := lv_neT c34 (a := 7) (by decide); have qc38 := lv_neT c38 (a := 8) (by decide); have qc42 := lv_neT c42 (a := 9) (by decide); have qc46 := lv_neT c46 (a := 10) (by decide); have qc50 := lv_neT c50 (a := 11) (by decide); have qc54 := lv_neT c54 (a := 12) (by decide); have qc58 := lv_neT c58 (a := 13) (by decide); have qc63 := lv_neT c63 (a := 14) (by decide); have qc67 := lv_neT c67 (a := 15) (by decide); omega) (by decide) ?_
  refine lv_iconst (pc := 191) (v := (-1 : Int32)) hx hb dX0_count_191 (by decide) ?_
  cases hf
  exact x_iret (pc := 192) X V hr dX0_count_192
theorem mX0_count {nf : Nat} (l : Launch) (D : va_G) (dA : Nat → ClassId) (s0 : Nat) {T : xT} {N : xT} {Z : Nat} {I : xI} {L : xL} {R : xR} {x0 : Nat} {x1 : Int32} {ro : Int32} (hf : fX0_count nf T N I R x0 x1 = some ro) : XMet l D dA s0 yX0_count (ws_ yX0_count cX0_count 2 ((some .int))) (1) (23) [.ref x0, .int x1] T N Z I L R (some (.int ro)) T N Z I L R 0 0 :=
  x_start (own := RX0) rfl (by decide) (Nat.le_of_ble_eq_true rfl) (lv := [(0, .ref x0), (1, .int x1)]) rfl (fun p e s m below meth c ls X hr hini V hl => wX0_count_e X hr hf V hl)
set_option maxHeartbeats 400000 in
set_option maxRecDepth 100000 in
theorem wX0_status_e {p : Program} {l : Launch} {e : Env} {s : State} {m : MethodId} {args : Array Value} {below : List Frame} {meth : Method} {c : Code} {D : va_G} {dA : Nat → ClassId} {s0 : Nat} {T : xT} {N : xT} {Z : Nat} {I : xI} {L : xL} {R : xR} {H : Heap} {locs : List Loc} {ls : Array Slot} {x0 : Nat} {ro : Int32} (X : Cx D dA s0 p m c cX0_status 1 s args RX0 meth) (hr : meth.sig.returnType = (some .int)) (hf : fX0_status T I x0 = some ro) (V : Iv D dA s0 s T N Z I L R H locs) (hl : lv_has ls 1 [(0, .ref x0)]) : W p l e { frames := 0, cells := 0, slots := 0, locals := 0 } s m args below meth c H locs 0 0 (MQ below (xQ D dA s0 (some (.int ro)) T N Z I L R) args s 0 0 (fun q => s0 ≤ q)) (F0 m 0 ls []) := by
  have hx := X.1.1
  have hb := X.1.2.1
  unfold fX0_status at hf
  refine lv_aload_n (pc := 0) hx hb dX0_status_0 rfl (lv_at hl 0 rfl) ?_
  replace hf := tg_s hf; obtain ⟨ht1, hf⟩ := hf
  refine x_get (pc := 1) X V okX0 ht1 0 (by decide) q360 (v := .int (I x0 0)) rfl dX0_status_1 ?_
  cases hf
  exact x_iret (pc := 4) X V hr dX0_status_4
theorem mX0_status (l : Launch) (D : va_G) (dA : Nat → ClassId) (s0 : Nat) {T : xT} {N : xT} {Z : Nat} {I : xI} {L : xL} {R : xR} {x0 : Nat} {ro : Int32} (hf : fX0_status T I x0 = some ro) : XMet l D dA s0 yX0_status (ws_ yX0_status cX0_status 1 ((some .int))) (0) (0) [.ref x0] T N Z I L R (some (.int ro)) T N Z I L R 0 0 :=
  x_start (own := RX0) rfl (by decide) (Nat.le_of_ble_eq_true rfl) (lv := [(0, .ref x0)]) rfl (fun p e s m below meth c ls X hr hini V hl => wX0_status_e X hr hf V hl)
