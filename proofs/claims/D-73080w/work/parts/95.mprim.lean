/-! PLAIN LAND, 45: the model as it reads: its state, its small steps -/
def flv : Option Nat → Int32
  | none => -1
  | some e => ii e
def bdv : Option Nat → Int32
  | none => ii 0
  | some _ => ii 1
def mRow (b : Nat → Nat) (sz : Nat) (r : Nat → Int32) (er : Option Nat) (i lv dp nc pl : Nat) : Nat → Int32 := fun j => if j = 14 then ii i else if j = 15 then ii (tnd b sz i) else if j = 16 then ii (srt b sz i) else if j = 18 then flv er else if j = 19 then bdv er else if j = 23 then ii nc else if j = 26 then ii lv else if j = 29 then ii pl else if j = 30 then ii dp else r j
/-- the model reading: error, token, leaves, brackets, code, pile -/
def MI (m : Nat) (b : Nat → Nat) (sz : Nat) (I : xI) (er : Option Nat) (i lv dp nc pl : Nat) (op ar pf pa : Nat → Int32) : xI := fun a => if a = m then mRow b sz (I m) er i lv dp nc pl else if a = m + 11 then op else if a = m + 12 then ar else if a = m + 13 then pf else if a = m + 14 then pa else I a
def nn (f : Nat → Int32) : Nat → Nat := fun k => (f k).toNatClampNeg
section
variable {T N : xT} {R : xR} {I : xI} {L : xL} {m nf sz i lv dp nc pl : Nat} {b : Nat → Nat} {er : Option Nat} {op ar pf pa : Nat → Int32}
theorem MI_m : MI m b sz I er i lv dp nc pl op ar pf pa m = mRow b sz (I m) er i lv dp nc pl := if_pos rfl
theorem MI_11 : MI m b sz I er i lv dp nc pl op ar pf pa (m + 11) = op := by unfold MI; rw [if_neg (by omega), if_pos rfl]
theorem MI_12 : MI m b sz I er i lv dp nc pl op ar pf pa (m + 12) = ar := by unfold MI; rw [if_neg (by omega), if_neg (by omega), if_pos rfl]
theorem MI_13 : MI m b sz I er i lv dp nc pl op ar pf pa (m + 13) = pf := by unfold MI; rw [if_neg (by omega), if_neg (by omega), if_neg (by omega), if_pos rfl]
theorem MI_14 : MI m b sz I er i lv dp nc pl op ar pf pa (m + 14) = pa := by unfold MI; rw [if_neg (by omega), if_neg (by omega), if_neg (by omega), if_neg (by omega), if_pos rfl]
theorem MI_ne {a : Nat} (h0 : a ≠ m) (h : a < m + 11 ∨ m + 14 < a) : MI m b sz I er i lv dp nc pl op ar pf pa a = I a := by unfold MI; rw [if_neg h0, if_neg (by omega), if_neg (by omega), if_neg (by omega), if_neg (by omega)]
theorem MI_f14 : MI m b sz I er i lv dp nc pl op ar pf pa m 14 = ii i := by rw [MI_m]; rfl
theorem MI_f15 : MI m b sz I er i lv dp nc pl op ar pf pa m 15 = ii (tnd b sz i) := by rw [MI_m]; rfl
theorem MI_f16 : MI m b sz I er i lv dp nc pl op ar pf pa m 16 = ii (srt b sz i) := by rw [MI_m]; rfl
theorem MI_f18 : MI m b sz I er i lv dp nc pl op ar pf pa m 18 = flv er := by rw [MI_m]; rfl
theorem MI_f19 : MI m b sz I er i lv dp nc pl op ar pf pa m 19 = bdv er := by rw [MI_m]; rfl
theorem MI_f23 : MI m b sz I er i lv dp nc pl op ar pf pa m 23 = ii nc := by rw [MI_m]; rfl
theorem MI_f26 : MI m b sz I er i lv dp nc pl op ar pf pa m 26 = ii lv := by rw [MI_m]; rfl
theorem MI_f29 : MI m b sz I er i lv dp nc pl op ar pf pa m 29 = ii pl := by rw [MI_m]; rfl
theorem MI_f30 : MI m b sz I er i lv dp nc pl op ar pf pa m 30 = ii dp := by rw [MI_m]; rfl
theorem MI_fo {j : Nat} (h : j < 14 ∨ j = 17 ∨ (19 < j ∧ j < 23) ∨ j = 24 ∨ j = 25 ∨ j = 27 ∨ j = 28 ∨ 30 < j) : MI m b sz I er i lv dp nc pl op ar pf pa m j = I m j := by
  rw [MI_m]; unfold mRow
  rw [if_neg (by omega), if_neg (by omega), if_neg (by omega), if_neg (by omega), if_neg (by omega), if_neg (by omega), if_neg (by omega), if_neg (by omega), if_neg (by omega)]
theorem MI_u {k : Nat} {v : Int32} {er' : Option Nat} {i' lv' dp' nc' pl' : Nat} (h : ∀ j, (if j = k then v else mRow b sz (I m) er i lv dp nc pl j) = mRow b sz (I m) er' i' lv' dp' nc' pl' j) : uI (MI m b sz I er i lv dp nc pl op ar pf pa) m k v = MI m b sz I er' i' lv' dp' nc' pl' op ar pf pa := by
  funext a
  by_cases q : a = m
  · subst q
    funext j
    rw [uI_at, MI_m, MI_m, h j]
  · rw [uI_ne q]
    unfold MI
    rw [if_neg q, if_neg q]
theorem MI_u23 (v : Nat) : uI (MI m b sz I er i lv dp nc pl op ar pf pa) m 23 (ii v) = MI m b sz I er i lv dp v pl op ar pf pa := MI_u fun j => by
  unfold mRow
  by_cases q : j = 23
  · subst q; rfl
  · simp only [q, if_false]
theorem MI_u26 (v : Nat) : uI (MI m b sz I er i lv dp nc pl op ar pf pa) m 26 (ii v) = MI m b sz I er i v dp nc pl op ar pf pa := MI_u fun j => by
  unfold mRow
  by_cases q : j = 26
  · subst q; rfl
  · simp only [q, if_false]
theorem MI_u29 (v : Nat) : uI (MI m b sz I er i lv dp nc pl op ar pf pa) m 29 (ii v) = MI m b sz I er i lv dp nc v op ar pf pa := MI_u fun j => by
  unfold mRow
  by_cases q : j = 29
  · subst q; rfl
  · simp only [q, if_false]
theorem MI_u30 (v : Nat) : uI (MI m b sz I er i lv dp nc pl op ar pf pa) m 30 (ii v) = MI m b sz I er i lv v nc pl op ar pf pa := MI_u fun j => by
  unfold mRow
  by_cases q : j = 30
  · subst q; rfl
  · simp only [q, if_false]
theorem MI_bad : uI (uI (MI m b sz I none i lv dp nc pl op ar pf pa) m 19 (ii 1)) m 18 (ii i) = MI m b sz I (some i) i lv dp nc pl op ar pf pa := by
  funext a
  by_cases q : a = m
  · subst q
    funext j
    rw [uI_at, uI_at, MI_m, MI_m]
    unfold mRow
    by_cases q : j = 18
    · subst q; rfl
    · by_cases q2 : j = 19
      · subst q2; rfl
      · simp only [q, q2, if_false]
  · rw [uI_ne q, uI_ne q]
    unfold MI
    rw [if_neg q, if_neg q]
theorem MI_u11 (k : Nat) (v : Int32) : uI (MI m b sz I er i lv dp nc pl op ar pf pa) (m + 11) k v = MI m b sz I er i lv dp nc pl (upd op k v) ar pf pa := by
  funext a
  unfold uI MI
  by_cases q : a = m + 11
  · subst q
    simp [show m + 11 ≠ m by omega]
  · simp [q]
theorem MI_u12 (k : Nat) (v : Int32) : uI (MI m b sz I er i lv dp nc pl op ar pf pa) (m + 12) k v = MI m b sz I er i lv dp nc pl op (upd ar k v) pf pa := by
  funext a
  unfold uI MI
  by_cases q : a = m + 12
  · subst q
    simp [show m + 12 ≠ m by omega]
  · simp [q]
theorem MI_u13 (k : Nat) (v : Int32) : uI (MI m b sz I er i lv dp nc pl op ar pf pa) (m + 13) k v = MI m b sz I er i lv dp nc pl op ar (upd pf k v) pa := by
  funext a
  unfold uI MI
  by_cases q : a = m + 13
  · subst q
    simp [show m + 13 ≠ m by omega]
  · simp [q]
theorem MI_u14 (k : Nat) (v : Int32) : uI (MI m b sz I er i lv dp nc pl op ar pf pa) (m + 14) k v = MI m b sz I er i lv dp nc pl op ar pf (upd pa k v) := by
  funext a
  unfold uI MI
  by_cases q : a = m + 14
  · subst q
    simp [show m + 14 ≠ m by omega]
  · simp [q]
theorem MI_f3 (i' : Nat) : f3 m (MI m b sz I er i lv dp nc pl op ar pf pa) i' (tnd b sz i') (srt b sz i') = MI m b sz I er i' lv dp nc pl op ar pf pa := by
  funext a
  by_cases q : a = m
  · subst q
    funext j
    rw [f3_at, MI_m, MI_m]
    unfold mRow
    by_cases q1 : j = 14
    · simp only [q1, if_true]
    · by_cases q2 : j = 15
      · subst q2; rfl
      · by_cases q3 : j = 16
        · subst q3; rfl
        · simp only [q1, q2, q3, if_false]
  · rw [f3_ne q]
    unfold MI
    rw [if_neg q, if_neg q]
theorem MI_tp (h : mTp m b sz I) : mTp m b sz (MI m b sz I er i lv dp nc pl op ar pf pa) := by
  obtain ⟨h1, h2, h3⟩ := h
  refine ⟨by rw [MI_fo (by omega)]; exact h1, h2, ?_⟩
  rw [MI_ne (by omega) (by omega)]
  exact h3
theorem p_next (hM : MSh m T N R) (hp : mTp m b sz I) (hnf : 402 < nf) (hi : i ≤ sz) : fX5_next nf T N (MI m b sz I er i lv dp nc pl op ar pf pa) (uL L m 17 (wth b sz i)) R m = some (MI m b sz I er (nxt b sz i) lv dp nc pl op ar pf pa, uL L m 17 (wth b sz (nxt b sz i))) := by
  have e := m_nextG (J := MI m b sz I er i lv dp nc pl op ar pf pa) (L := uL L m 17 (wth b sz i)) (i0 := i) (t := tnd b sz i) (s0 := srt b sz i) hM (MI_tp hp) hnf (tnd_le hi).2
  rw [MI_f3, MI_f3, uL_uL] at e
  exact e
theorem p_isWord (hM : MSh m T N R) {cs : List Nat} {w : Nat} (hw : wOK cs w) : fX5_isWord T (MI m b sz I er i lv dp nc pl op ar pf pa) (uL L m 17 (wth b sz i)) m (jj w) = some (bi (wd b sz i cs)) := by
  rw [wd_iff hw]
  unfold fX5_isWord
  have hs : srt b sz i < 4 := by unfold srt; repeat (first | omega | split)
  by_cases q : srt b sz i = 1
  · by_cases q2 : wth b sz i = jj w
    · simp (disch := omega) only [↓nm_v, ↓tg, ↓rA, ↓chk_if, ↓reduceIte, inb_ii, ii_nat, ii_add, and_self, bi_zb, if_bi, if_bi1, ii_leT, ii_leF, ii_ltT, ii_ltF, ii_eqF, ii_m1F, ↓mb_2 hM, ↓mb_3 hM, ↓mb_4 hM, ↓mb_5 hM, ↓mb_6 hM, ↓mb_7 hM, ↓mb_9 hM, ↓mb_10 hM, ↓mb_12 hM, ↓mb_22 hM, ↓mb_24 hM, ↓mb_25 hM, ↓mb_27 hM, ↓mb_28 hM, ↓mb_31 hM, ↓mb_32 hM, ↓mb_33 hM, ↓mb_35 hM, ↓mb_36 hM, ↓mb_37 hM, ↓mb_41 hM, ↓mb_42 hM, ↓mb_43 hM, ↓mb_44 hM, ↓mb_45 hM, ↓mb_46 hM, ↓mb_47 hM, ↓mb_48 hM, ↓mb_49 hM, ↓mb_55 hM, hM, MI_f16, q, uL_hit, q2]
      simp [bi]
    · simp (disch := omega) only [↓nm_v, ↓tg, ↓rA, ↓chk_if, ↓reduceIte, inb_ii, ii_nat, ii_add, and_self, bi_zb, if_bi, if_bi1, ii_leT, ii_leF, ii_ltT, ii_ltF, ii_eqF, ii_m1F, ↓mb_2 hM, ↓mb_3 hM, ↓mb_4 hM, ↓mb_5 hM, ↓mb_6 hM, ↓mb_7 hM, ↓mb_9 hM, ↓mb_10 hM, ↓mb_12 hM, ↓mb_22 hM, ↓mb_24 hM, ↓mb_25 hM, ↓mb_27 hM, ↓mb_28 hM, ↓mb_31 hM, ↓mb_32 hM, ↓mb_33 hM, ↓mb_35 hM, ↓mb_36 hM, ↓mb_37 hM, ↓mb_41 hM, ↓mb_42 hM, ↓mb_43 hM, ↓mb_44 hM, ↓mb_45 hM, ↓mb_46 hM, ↓mb_47 hM, ↓mb_48 hM, ↓mb_49 hM, ↓mb_55 hM, hM, MI_f16, q, uL_hit, q2]
      simp [bi]
  · simp (disch := omega) only [↓nm_v, ↓tg, ↓rA, ↓chk_if, ↓reduceIte, inb_ii, ii_nat, ii_add, and_self, bi_zb, if_bi, if_bi1, ii_leT, ii_leF, ii_ltT, ii_ltF, ii_eqF, ii_m1F, ↓mb_2 hM, ↓mb_3 hM, ↓mb_4 hM, ↓mb_5 hM, ↓mb_6 hM, ↓mb_7 hM, ↓mb_9 hM, ↓mb_10 hM, ↓mb_12 hM, ↓mb_22 hM, ↓mb_24 hM, ↓mb_25 hM, ↓mb_27 hM, ↓mb_28 hM, ↓mb_31 hM, ↓mb_32 hM, ↓mb_33 hM, ↓mb_35 hM, ↓mb_36 hM, ↓mb_37 hM, ↓mb_41 hM, ↓mb_42 hM, ↓mb_43 hM, ↓mb_44 hM, ↓mb_45 hM, ↓mb_46 hM, ↓mb_47 hM, ↓mb_48 hM, ↓mb_49 hM, ↓mb_55 hM, hM, MI_f16, q]
    simp [bi]
theorem p_isSign (hM : MSh m T N R) (hp : mTp m b sz I) {c : Nat} (hc : c < 256) (h1 : isL c = false) (h2 : isD c = false) : fX5_isSign T (MI m b sz I er i lv dp nc pl op ar pf pa) (uL L m 17 (wth b sz i)) m (ii c) = some (bi (sg b sz i c)) := by
  rw [sg_iff (hp.2.2.2 i) hc h1 h2]
  unfold fX5_isSign
  have hs : srt b sz i < 4 := by unfold srt; repeat (first | omega | split)
  by_cases q : srt b sz i = 3
  · by_cases q2 : wth b sz i = jj c
    · simp (disch := omega) only [↓nm_v, ↓tg, ↓rA, ↓chk_if, ↓reduceIte, inb_ii, ii_nat, ii_add, and_self, bi_zb, if_bi, if_bi1, ii_leT, ii_leF, ii_ltT, ii_ltF, ii_eqF, ii_m1F, ↓mb_2 hM, ↓mb_3 hM, ↓mb_4 hM, ↓mb_5 hM, ↓mb_6 hM, ↓mb_7 hM, ↓mb_9 hM, ↓mb_10 hM, ↓mb_12 hM, ↓mb_22 hM, ↓mb_24 hM, ↓mb_25 hM, ↓mb_27 hM, ↓mb_28 hM, ↓mb_31 hM, ↓mb_32 hM, ↓mb_33 hM, ↓mb_35 hM, ↓mb_36 hM, ↓mb_37 hM, ↓mb_41 hM, ↓mb_42 hM, ↓mb_43 hM, ↓mb_44 hM, ↓mb_45 hM, ↓mb_46 hM, ↓mb_47 hM, ↓mb_48 hM, ↓mb_49 hM, ↓mb_55 hM, hM, MI_f16, q, uL_hit, q2, ii_64]
      simp [bi]
    · simp (disch := omega) only [↓nm_v, ↓tg, ↓rA, ↓chk_if, ↓reduceIte, inb_ii, ii_nat, ii_add, and_self, bi_zb, if_bi, if_bi1, ii_leT, ii_leF, ii_ltT, ii_ltF, ii_eqF, ii_m1F, ↓mb_2 hM, ↓mb_3 hM, ↓mb_4 hM, ↓mb_5 hM, ↓mb_6 hM, ↓mb_7 hM, ↓mb_9 hM, ↓mb_10 hM, ↓mb_12 hM, ↓mb_22 hM, ↓mb_24 hM, ↓mb_25 hM, ↓mb_27 hM, ↓mb_28 hM, ↓mb_31 hM, ↓mb_32 hM, ↓mb_33 hM, ↓mb_35 hM, ↓mb_36 hM, ↓mb_37 hM, ↓mb_41 hM, ↓mb_42 hM, ↓mb_43 hM, ↓mb_44 hM, ↓mb_45 hM, ↓mb_46 hM, ↓mb_47 hM, ↓mb_48 hM, ↓mb_49 hM, ↓mb_55 hM, hM, MI_f16, q, uL_hit, q2, ii_64]
      simp [bi]
  · simp (disch := omega) only [↓nm_v, ↓tg, ↓rA, ↓chk_if, ↓reduceIte, inb_ii, ii_nat, ii_add, and_self, bi_zb, if_bi, if_bi1, ii_leT, ii_leF, ii_ltT, ii_ltF, ii_eqF, ii_m1F, ↓mb_2 hM, ↓mb_3 hM, ↓mb_4 hM, ↓mb_5 hM, ↓mb_6 hM, ↓mb_7 hM, ↓mb_9 hM, ↓mb_10 hM, ↓mb_12 hM, ↓mb_22 hM, ↓mb_24 hM, ↓mb_25 hM, ↓mb_27 hM, ↓mb_28 hM, ↓mb_31 hM, ↓mb_32 hM, ↓mb_33 hM, ↓mb_35 hM, ↓mb_36 hM, ↓mb_37 hM, ↓mb_41 hM, ↓mb_42 hM, ↓mb_43 hM, ↓mb_44 hM, ↓mb_45 hM, ↓mb_46 hM, ↓mb_47 hM, ↓mb_48 hM, ↓mb_49 hM, ↓mb_55 hM, hM, MI_f16, q]
    simp [bi]
theorem p_mustT (hM : MSh m T N R) (hp : mTp m b sz I) (hnf : 402 < nf) (hi : i ≤ sz) : fX5_must nf T N (MI m b sz I none i lv dp nc pl op ar pf pa) (uL L m 17 (wth b sz i)) R m (ii 1) = some (MI m b sz I none (nxt b sz i) lv dp nc pl op ar pf pa, uL L m 17 (wth b sz (nxt b sz i))) := by
  unfold fX5_must fX5_must_b24
  simp (disch := omega) only [↓nm_v, ↓tg, ↓rA, ↓chk_if, ↓reduceIte, inb_ii, ii_nat, ii_add, and_self, bi_zb, if_bi, if_bi1, ii_leT, ii_leF, ii_ltT, ii_ltF, ii_eqF, ii_m1F, ↓mb_2 hM, ↓mb_3 hM, ↓mb_4 hM, ↓mb_5 hM, ↓mb_6 hM, ↓mb_7 hM, ↓mb_9 hM, ↓mb_10 hM, ↓mb_12 hM, ↓mb_22 hM, ↓mb_24 hM, ↓mb_25 hM, ↓mb_27 hM, ↓mb_28 hM, ↓mb_31 hM, ↓mb_32 hM, ↓mb_33 hM, ↓mb_35 hM, ↓mb_36 hM, ↓mb_37 hM, ↓mb_41 hM, ↓mb_42 hM, ↓mb_43 hM, ↓mb_44 hM, ↓mb_45 hM, ↓mb_46 hM, ↓mb_47 hM, ↓mb_48 hM, ↓mb_49 hM, ↓mb_55 hM, hM, MI_f19, bdv, ↓b2_of (p_next (er := none) (L := L) hM hp hnf hi)]
theorem p_mustF (hM : MSh m T N R) : fX5_must nf T N (MI m b sz I none i lv dp nc pl op ar pf pa) L R m (ii 0) = some (MI m b sz I (some i) i lv dp nc pl op ar pf pa, L) := by
  have e14 : uI (MI m b sz I none i lv dp nc pl op ar pf pa) m 19 (ii 1) m 14 = ii i := by rw [uI_mis (by omega), MI_f14]
  unfold fX5_must fX5_must_b24
  simp (disch := omega) only [↓nm_v, ↓tg, ↓rA, ↓chk_if, ↓reduceIte, inb_ii, ii_nat, ii_add, and_self, bi_zb, if_bi, if_bi1, ii_leT, ii_leF, ii_ltT, ii_ltF, ii_eqF, ii_m1F, ↓mb_2 hM, ↓mb_3 hM, ↓mb_4 hM, ↓mb_5 hM, ↓mb_6 hM, ↓mb_7 hM, ↓mb_9 hM, ↓mb_10 hM, ↓mb_12 hM, ↓mb_22 hM, ↓mb_24 hM, ↓mb_25 hM, ↓mb_27 hM, ↓mb_28 hM, ↓mb_31 hM, ↓mb_32 hM, ↓mb_33 hM, ↓mb_35 hM, ↓mb_36 hM, ↓mb_37 hM, ↓mb_41 hM, ↓mb_42 hM, ↓mb_43 hM, ↓mb_44 hM, ↓mb_45 hM, ↓mb_46 hM, ↓mb_47 hM, ↓mb_48 hM, ↓mb_49 hM, ↓mb_55 hM, hM, MI_f19, bdv, e14, MI_bad]
theorem p_push (hM : MSh m T N R) (hpl : pl < 400) (o a : Nat) : fX5_push T N (MI m b sz I er i lv dp nc pl op ar pf pa) R m (ii o) (ii a) = some (MI m b sz I er i lv dp nc (pl + 1) op ar (upd pf pl (ii o)) (upd pa pl (ii a))) := by
  unfold fX5_push
  simp (disch := omega) only [↓nm_v, ↓tg, ↓rA, ↓chk_if, ↓reduceIte, inb_ii, ii_nat, ii_add, and_self, bi_zb, if_bi, if_bi1, ii_leT, ii_leF, ii_ltT, ii_ltF, ii_eqF, ii_m1F, ↓mb_2 hM, ↓mb_3 hM, ↓mb_4 hM, ↓mb_5 hM, ↓mb_6 hM, ↓mb_7 hM, ↓mb_9 hM, ↓mb_10 hM, ↓mb_12 hM, ↓mb_22 hM, ↓mb_24 hM, ↓mb_25 hM, ↓mb_27 hM, ↓mb_28 hM, ↓mb_31 hM, ↓mb_32 hM, ↓mb_33 hM, ↓mb_35 hM, ↓mb_36 hM, ↓mb_37 hM, ↓mb_41 hM, ↓mb_42 hM, ↓mb_43 hM, ↓mb_44 hM, ↓mb_45 hM, ↓mb_46 hM, ↓mb_47 hM, ↓mb_48 hM, ↓mb_49 hM, ↓mb_55 hM, hM, MI_f29, MI_u13, MI_u14, MI_u29]
theorem p_emit (hM : MSh m T N R) (hnc : nc < 400) (o a : Nat) : fX5_emit T N (MI m b sz I er i lv dp nc pl op ar pf pa) R m (ii o) (ii a) = some (MI m b sz I er i lv dp (nc + 1) pl (upd op nc (ii o)) (upd ar nc (ii a)) pf pa) := by
  unfold fX5_emit
  simp (disch := omega) only [↓nm_v, ↓tg, ↓rA, ↓chk_if, ↓reduceIte, inb_ii, ii_nat, ii_add, and_self, bi_zb, if_bi, if_bi1, ii_leT, ii_leF, ii_ltT, ii_ltF, ii_eqF, ii_m1F, ↓mb_2 hM, ↓mb_3 hM, ↓mb_4 hM, ↓mb_5 hM, ↓mb_6 hM, ↓mb_7 hM, ↓mb_9 hM, ↓mb_10 hM, ↓mb_12 hM, ↓mb_22 hM, ↓mb_24 hM, ↓mb_25 hM, ↓mb_27 hM, ↓mb_28 hM, ↓mb_31 hM, ↓mb_32 hM, ↓mb_33 hM, ↓mb_35 hM, ↓mb_36 hM, ↓mb_37 hM, ↓mb_41 hM, ↓mb_42 hM, ↓mb_43 hM, ↓mb_44 hM, ↓mb_45 hM, ↓mb_46 hM, ↓mb_47 hM, ↓mb_48 hM, ↓mb_49 hM, ↓mb_55 hM, hM, MI_f23, MI_u11, MI_u12, MI_u23]
def bnd (o : Nat) : Nat := if 31 ≤ o then 0 else if o = 30 then 1 else if o = 29 then 2 else if o = 28 then 3 else if 25 ≤ o then 4 else if 22 ≤ o then 6 else 5
theorem p_binds {o : Nat} (h : o < 100) : fX5_binds (ii o) = some (ii (bnd o)) := by
  unfold fX5_binds bnd
  by_cases q1 : 31 ≤ o
  · rw [if_pos q1]
    simp (disch := omega) only [↓nm_v, ↓tg, ↓rA, ↓chk_if, ↓reduceIte, inb_ii, ii_nat, ii_add, and_self, bi_zb, if_bi, if_bi1, ii_leT, ii_leF, ii_ltT, ii_ltF, ii_eqF, ii_m1F]
  · rw [if_neg q1]
    by_cases q2 : o = 30
    · rw [if_pos q2]
      simp (disch := omega) only [↓nm_v, ↓tg, ↓rA, ↓chk_if, ↓reduceIte, inb_ii, ii_nat, ii_add, and_self, bi_zb, if_bi, if_bi1, ii_leT, ii_leF, ii_ltT, ii_ltF, ii_eqF, ii_m1F, q2]
    · rw [if_neg q2]
      by_cases q3 : o = 29
      · rw [if_pos q3]
        simp (disch := omega) only [↓nm_v, ↓tg, ↓rA, ↓chk_if, ↓reduceIte, inb_ii, ii_nat, ii_add, and_self, bi_zb, if_bi, if_bi1, ii_leT, ii_leF, ii_ltT, ii_ltF, ii_eqF, ii_m1F, q3]
      · rw [if_neg q3]
        by_cases q4 : o = 28
        · rw [if_pos q4]
          simp (disch := omega) only [↓nm_v, ↓tg, ↓rA, ↓chk_if, ↓reduceIte, inb_ii, ii_nat, ii_add, and_self, bi_zb, if_bi, if_bi1, ii_leT, ii_leF, ii_ltT, ii_ltF, ii_eqF, ii_m1F, q4]
        · rw [if_neg q4]
          by_cases q5 : 25 ≤ o
          · rw [if_pos q5]
            simp (disch := omega) only [↓nm_v, ↓tg, ↓rA, ↓chk_if, ↓reduceIte, inb_ii, ii_nat, ii_add, and_self, bi_zb, if_bi, if_bi1, ii_leT, ii_leF, ii_ltT, ii_ltF, ii_eqF, ii_m1F]
          · rw [if_neg q5]
            by_cases q6 : 22 ≤ o
            · rw [if_pos q6]
              simp (disch := omega) only [↓nm_v, ↓tg, ↓rA, ↓chk_if, ↓reduceIte, inb_ii, ii_nat, ii_add, and_self, bi_zb, if_bi, if_bi1, ii_leT, ii_leF, ii_ltT, ii_ltF, ii_eqF, ii_m1F]
            · rw [if_neg q6]
              simp (disch := omega) only [↓nm_v, ↓tg, ↓rA, ↓chk_if, ↓reduceIte, inb_ii, ii_nat, ii_add, and_self, bi_zb, if_bi, if_bi1, ii_leT, ii_leF, ii_ltT, ii_ltF, ii_eqF, ii_m1F]
/-- the innermost bracket; none -/
def innr (pf : Nat → Int32) (pl : Nat) : Int32 := rngF (fun j v => if pf j < ii 31 then v else pf j) pl 0 (-1)
theorem innr_s : innr pf (pl + 1) = if pf pl < ii 31 then innr pf pl else pf pl := rngF_s _ _ _
theorem p_inner (hM : MSh m T N R) (hnf : 402 < nf) (hpl : pl ≤ 400) : fX5_inner nf T N (MI m b sz I er i lv dp nc pl op ar pf pa) R m = some (innr pf pl) := by
  unfold fX5_inner
  refine loop0 (fun k v j => fX5_inner_b4 nf T N (MI m b sz I er i lv dp nc pl op ar pf pa) R k m v (ii j)) (fun j v => if pf j < ii 31 then v else pf j) pl (fun v => some v) ?_ ?_ (by omega) (-1)
  · intro k v j hj
    show fX5_inner_b4 nf T N (MI m b sz I er i lv dp nc pl op ar pf pa) R (k + 1) m v (ii j) = _
    rw [fX5_inner_b4]
    by_cases q : pf j < ii 31
    · simp (disch := omega) only [↓nm_v, ↓tg, ↓rA, ↓chk_if, ↓reduceIte, inb_ii, ii_nat, ii_add, and_self, bi_zb, if_bi, if_bi1, ii_leT, ii_leF, ii_ltT, ii_ltF, ii_eqF, ii_m1F, ↓mb_2 hM, ↓mb_3 hM, ↓mb_4 hM, ↓mb_5 hM, ↓mb_6 hM, ↓mb_7 hM, ↓mb_9 hM, ↓mb_10 hM, ↓mb_12 hM, ↓mb_22 hM, ↓mb_24 hM, ↓mb_25 hM, ↓mb_27 hM, ↓mb_28 hM, ↓mb_31 hM, ↓mb_32 hM, ↓mb_33 hM, ↓mb_35 hM, ↓mb_36 hM, ↓mb_37 hM, ↓mb_41 hM, ↓mb_42 hM, ↓mb_43 hM, ↓mb_44 hM, ↓mb_45 hM, ↓mb_46 hM, ↓mb_47 hM, ↓mb_48 hM, ↓mb_49 hM, ↓mb_55 hM, hM, MI_f29, MI_13, q]
    · simp (disch := omega) only [↓nm_v, ↓tg, ↓rA, ↓chk_if, ↓reduceIte, inb_ii, ii_nat, ii_add, and_self, bi_zb, if_bi, if_bi1, ii_leT, ii_leF, ii_ltT, ii_ltF, ii_eqF, ii_m1F, ↓mb_2 hM, ↓mb_3 hM, ↓mb_4 hM, ↓mb_5 hM, ↓mb_6 hM, ↓mb_7 hM, ↓mb_9 hM, ↓mb_10 hM, ↓mb_12 hM, ↓mb_22 hM, ↓mb_24 hM, ↓mb_25 hM, ↓mb_27 hM, ↓mb_28 hM, ↓mb_31 hM, ↓mb_32 hM, ↓mb_33 hM, ↓mb_35 hM, ↓mb_36 hM, ↓mb_37 hM, ↓mb_41 hM, ↓mb_42 hM, ↓mb_43 hM, ↓mb_44 hM, ↓mb_45 hM, ↓mb_46 hM, ↓mb_47 hM, ↓mb_48 hM, ↓mb_49 hM, ↓mb_55 hM, hM, MI_f29, MI_13, q]
  · intro k v
    show fX5_inner_b4 nf T N (MI m b sz I er i lv dp nc pl op ar pf pa) R (k + 1) m v (ii pl) = _
    rw [fX5_inner_b4]
    simp (disch := omega) only [↓nm_v, ↓tg, ↓rA, ↓chk_if, ↓reduceIte, inb_ii, ii_nat, ii_add, and_self, bi_zb, if_bi, if_bi1, ii_leT, ii_leF, ii_ltT, ii_ltF, ii_eqF, ii_m1F, ↓mb_2 hM, ↓mb_3 hM, ↓mb_4 hM, ↓mb_5 hM, ↓mb_6 hM, ↓mb_7 hM, ↓mb_9 hM, ↓mb_10 hM, ↓mb_12 hM, ↓mb_22 hM, ↓mb_24 hM, ↓mb_25 hM, ↓mb_27 hM, ↓mb_28 hM, ↓mb_31 hM, ↓mb_32 hM, ↓mb_33 hM, ↓mb_35 hM, ↓mb_36 hM, ↓mb_37 hM, ↓mb_41 hM, ↓mb_42 hM, ↓mb_43 hM, ↓mb_44 hM, ↓mb_45 hM, ↓mb_46 hM, ↓mb_47 hM, ↓mb_48 hM, ↓mb_49 hM, ↓mb_55 hM, hM, MI_f29]
/-- whether a comparison lies behind the sums -/
def cmpF (pf : Nat → Int32) : Nat → Bool
  | 0 => false
  | q + 1 => if rg (pf q) 20 24 = true then cmpF pf q else rg (pf q) 25 27
theorem p_isCompared (hM : MSh m T N R) (hnf : 402 < nf) (hpl : pl ≤ 400) : fX5_isCompared nf T N (MI m b sz I er i lv dp nc pl op ar pf pa) R m = some (bi (cmpF pf pl)) := by
  have e20 : (jj 20).toInt = 20 := by decide
  have e24 : (jj 24).toInt = 24 := by decide
  have e25 : (jj 25).toInt = 25 := by decide
  have e27 : (jj 27).toInt = 27 := by decide
  have loop : ∀ (q k : Nat), q ≤ pl → q < k → fX5_isCompared_b7 nf T N (MI m b sz I er i lv dp nc pl op ar pf pa) R k m (ii q - ii 1) = some (bi (cmpF pf q)) := by
    intro q
    induction q with
    | zero =>
      intro k _ hk
      obtain ⟨k, rfl⟩ : ∃ z, k = z + 1 := ⟨k - 1, by omega⟩
      have e : ii 0 - ii 1 < ii 0 := by decide
      rw [fX5_isCompared_b7]
      simp only [e, if_true, fX5_isCompared_b36]
      rfl
    | succ q ih =>
      intro k hq hk
      obtain ⟨k, rfl⟩ : ∃ z, k = z + 1 := ⟨k - 1, by omega⟩
      have e : ii (q + 1) - ii 1 = ii q := by rw [ii_sub (by omega)]; rfl
      have e2 : ii q + (-1 : Int32) = ii q - ii 1 := by rw [Int32.sub_eq_add_neg]; rfl
      rw [fX5_isCompared_b7, e]
      unfold cmpF
      by_cases c : rg (pf q) 20 24 = true
      · rw [if_pos c]
        simp (disch := omega) only [↓nm_v, ↓tg, ↓rA, ↓chk_if, ↓reduceIte, inb_ii, ii_nat, ii_add, and_self, bi_zb, if_bi, if_bi1, ii_leT, ii_leF, ii_ltT, ii_ltF, ii_eqF, ii_m1F, ↓mb_2 hM, ↓mb_3 hM, ↓mb_4 hM, ↓mb_5 hM, ↓mb_6 hM, ↓mb_7 hM, ↓mb_9 hM, ↓mb_10 hM, ↓mb_12 hM, ↓mb_22 hM, ↓mb_24 hM, ↓mb_25 hM, ↓mb_27 hM, ↓mb_28 hM, ↓mb_31 hM, ↓mb_32 hM, ↓mb_33 hM, ↓mb_35 hM, ↓mb_36 hM, ↓mb_37 hM, ↓mb_41 hM, ↓mb_42 hM, ↓mb_43 hM, ↓mb_44 hM, ↓mb_45 hM, ↓mb_46 hM, ↓mb_47 hM, ↓mb_48 hM, ↓mb_49 hM, ↓mb_55 hM, hM, MI_13, m_in, e20, e24, ↓bn_e, c, e2]
        exact ih k (by omega) (by omega)
      · have c' : rg (pf q) 20 24 = false := by simpa using c
        rw [if_neg c]
        simp (disch := omega) only [↓nm_v, ↓tg, ↓rA, ↓chk_if, ↓reduceIte, inb_ii, ii_nat, ii_add, and_self, bi_zb, if_bi, if_bi1, ii_leT, ii_leF, ii_ltT, ii_ltF, ii_eqF, ii_m1F, ↓mb_2 hM, ↓mb_3 hM, ↓mb_4 hM, ↓mb_5 hM, ↓mb_6 hM, ↓mb_7 hM, ↓mb_9 hM, ↓mb_10 hM, ↓mb_12 hM, ↓mb_22 hM, ↓mb_24 hM, ↓mb_25 hM, ↓mb_27 hM, ↓mb_28 hM, ↓mb_31 hM, ↓mb_32 hM, ↓mb_33 hM, ↓mb_35 hM, ↓mb_36 hM, ↓mb_37 hM, ↓mb_41 hM, ↓mb_42 hM, ↓mb_43 hM, ↓mb_44 hM, ↓mb_45 hM, ↓mb_46 hM, ↓mb_47 hM, ↓mb_48 hM, ↓mb_49 hM, ↓mb_55 hM, hM, MI_13, m_in, e20, e24, e25, e27, ↓bn_e, c', Bool.false_eq_true, fX5_isCompared_b36]
        cases rg (pf q) 25 27 <;> rfl
  unfold fX5_isCompared
  simp (disch := omega) only [↓nm_v, ↓tg, ↓rA, ↓chk_if, ↓reduceIte, inb_ii, ii_nat, ii_add, and_self, bi_zb, if_bi, if_bi1, ii_leT, ii_leF, ii_ltT, ii_ltF, ii_eqF, ii_m1F, ↓mb_2 hM, ↓mb_3 hM, ↓mb_4 hM, ↓mb_5 hM, ↓mb_6 hM, ↓mb_7 hM, ↓mb_9 hM, ↓mb_10 hM, ↓mb_12 hM, ↓mb_22 hM, ↓mb_24 hM, ↓mb_25 hM, ↓mb_27 hM, ↓mb_28 hM, ↓mb_31 hM, ↓mb_32 hM, ↓mb_33 hM, ↓mb_35 hM, ↓mb_36 hM, ↓mb_37 hM, ↓mb_41 hM, ↓mb_42 hM, ↓mb_43 hM, ↓mb_44 hM, ↓mb_45 hM, ↓mb_46 hM, ↓mb_47 hM, ↓mb_48 hM, ↓mb_49 hM, ↓mb_55 hM, hM, MI_f29]
  exact loop pl nf (Nat.le_refl _) (by omega)
end
