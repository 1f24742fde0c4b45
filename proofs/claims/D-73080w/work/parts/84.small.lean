/-! PLAIN LAND, 34: what is refused, done, told -/
/-- a code of refusal, and its place -/
def isE (x : Int32) (e : Nat) : Prop := -x = ii e ∧ e < 7 ∧ ¬ ii 0 ≤ x
theorem isE1 : isE (-1) 1 := ⟨by decide, by decide, by decide⟩
theorem isE2 : isE (-2) 2 := ⟨by decide, by decide, by decide⟩
theorem isE3 : isE (-3) 3 := ⟨by decide, by decide, by decide⟩
theorem isE5 : isE (-5) 5 := ⟨by decide, by decide, by decide⟩
theorem isE6 : isE (-6) 6 := ⟨by decide, by decide, by decide⟩
section
variable {T N : xT} {R : xR} {I : xI} {L : xL} {c s m n k nf : Nat} {g tx : Nat → Int32}
/-- the heap behind a refusal -/
def rfC (c : Nat) (x : Int32) (e : Nat) (I : xI) : xI := uI (uI I c 0 x) (c + 1) e (I (c + 1) e + ii 1)
def rfM (m : Nat) (x : Int32) (e : Nat) (I : xI) : xI := uI (uI I m 1 x) (m + 1) e (I (m + 1) e + ii 1)
theorem c_refuse (hC : CSh c s T N R) {x : Int32} {e : Nat} (h : isE x e) : fX0_refuse T N I R c x = some (x, rfC c x e I) := by
  obtain ⟨h1, h2, h3⟩ := h
  unfold fX0_refuse rfC
  simp (disch := omega) only [↓nm_v, ↓tg, ↓rA, ↓chk_if, ↓reduceIte, inb_ii, ii_nat, ii_add, and_self, bi_zb, if_bi, if_bi1, ii_leT, ii_leF, ii_ltT, ii_ltF, ii_eqF, ii_m1F, ↓cb_2 hC, ↓cb_1 hC, ↓cb_3 hC, ↓cb_4 hC, ↓cb_5 hC, ↓cb_6 hC, ↓cb_7 hC, ↓cb_10 hC, ↓cb_17 hC, ↓cb_18 hC, ↓cb_19 hC, ↓cb_20 hC, ↓cb_21 hC, ↓cb_22 hC, ↓cb_23 hC, ↓cb_8 hC, ↓cb_9 hC, ↓cb_24 hC, ↓cb_16 hC, ↓cb29_0 hC, ↓cb29_1 hC, hC, h1, uI_ne]
theorem c_done (hC : CSh c s T N R) (x : Int32) : fX0_done T I c x = some (x, uI I c 0 (ii 0)) := by
  unfold fX0_done
  simp (disch := omega) only [↓nm_v, ↓tg, ↓rA, ↓chk_if, ↓reduceIte, inb_ii, ii_nat, ii_add, and_self, bi_zb, if_bi, if_bi1, ii_leT, ii_leF, ii_ltT, ii_ltF, ii_eqF, ii_m1F, ↓cb_2 hC, ↓cb_1 hC, ↓cb_3 hC, ↓cb_4 hC, ↓cb_5 hC, ↓cb_6 hC, ↓cb_7 hC, ↓cb_10 hC, ↓cb_17 hC, ↓cb_18 hC, ↓cb_19 hC, ↓cb_20 hC, ↓cb_21 hC, ↓cb_22 hC, ↓cb_23 hC, ↓cb_8 hC, ↓cb_9 hC, ↓cb_24 hC, ↓cb_16 hC, ↓cb29_0 hC, ↓cb29_1 hC, hC]
theorem c_settled (hC : CSh c s T N R) (x : Int32) : fX0_settled T I c x = some (x, uI (uI I c 15 (ii 0)) c 0 (ii 0)) := by
  unfold fX0_settled
  simp (disch := omega) only [↓nm_v, ↓tg, ↓rA, ↓chk_if, ↓reduceIte, inb_ii, ii_nat, ii_add, and_self, bi_zb, if_bi, if_bi1, ii_leT, ii_leF, ii_ltT, ii_ltF, ii_eqF, ii_m1F, ↓cb_2 hC, ↓cb_1 hC, ↓cb_3 hC, ↓cb_4 hC, ↓cb_5 hC, ↓cb_6 hC, ↓cb_7 hC, ↓cb_10 hC, ↓cb_17 hC, ↓cb_18 hC, ↓cb_19 hC, ↓cb_20 hC, ↓cb_21 hC, ↓cb_22 hC, ↓cb_23 hC, ↓cb_8 hC, ↓cb_9 hC, ↓cb_24 hC, ↓cb_16 hC, ↓cb29_0 hC, ↓cb29_1 hC, hC, ↓b2_of (c_done (I := uI I c 15 (ii 0)) hC x)]
theorem c_doneOr0 (hC : CSh c s T N R) {x : Int32} (h : ii 0 ≤ x) : fX0_doneOr T N I R c x = some (x, uI I c 0 (ii 0)) := by
  unfold fX0_doneOr
  simp (disch := omega) only [↓nm_v, ↓tg, ↓rA, ↓chk_if, ↓reduceIte, inb_ii, ii_nat, ii_add, and_self, bi_zb, if_bi, if_bi1, ii_leT, ii_leF, ii_ltT, ii_ltF, ii_eqF, ii_m1F, ↓cb_2 hC, ↓cb_1 hC, ↓cb_3 hC, ↓cb_4 hC, ↓cb_5 hC, ↓cb_6 hC, ↓cb_7 hC, ↓cb_10 hC, ↓cb_17 hC, ↓cb_18 hC, ↓cb_19 hC, ↓cb_20 hC, ↓cb_21 hC, ↓cb_22 hC, ↓cb_23 hC, ↓cb_8 hC, ↓cb_9 hC, ↓cb_24 hC, ↓cb_16 hC, ↓cb29_0 hC, ↓cb29_1 hC, hC, h, ↓b2_of (c_done (I := I) hC x)]
theorem c_doneOrE (hC : CSh c s T N R) {x : Int32} {e : Nat} (h : isE x e) : fX0_doneOr T N I R c x = some (x, rfC c x e I) := by
  unfold fX0_doneOr
  simp (disch := omega) only [↓nm_v, ↓tg, ↓rA, ↓chk_if, ↓reduceIte, inb_ii, ii_nat, ii_add, and_self, bi_zb, if_bi, if_bi1, ii_leT, ii_leF, ii_ltT, ii_ltF, ii_eqF, ii_m1F, ↓cb_2 hC, ↓cb_1 hC, ↓cb_3 hC, ↓cb_4 hC, ↓cb_5 hC, ↓cb_6 hC, ↓cb_7 hC, ↓cb_10 hC, ↓cb_17 hC, ↓cb_18 hC, ↓cb_19 hC, ↓cb_20 hC, ↓cb_21 hC, ↓cb_22 hC, ↓cb_23 hC, ↓cb_8 hC, ↓cb_9 hC, ↓cb_24 hC, ↓cb_16 hC, ↓cb29_0 hC, ↓cb29_1 hC, hC, h.2.2, ↓b2_of (c_refuse (I := I) hC h)]
theorem m_tell0 (hM : MSh m T N R) {x : Int32} (h : ii 0 ≤ x) : fX5_tell T N I R m x = some (x, uI I m 1 (ii 0)) := by
  unfold fX5_tell fX5_tell_b10
  simp (disch := omega) only [↓nm_v, ↓tg, ↓rA, ↓chk_if, ↓reduceIte, inb_ii, ii_nat, ii_add, and_self, bi_zb, if_bi, if_bi1, ii_leT, ii_leF, ii_ltT, ii_ltF, ii_eqF, ii_m1F, ↓mb_2 hM, ↓mb_3 hM, ↓mb_4 hM, ↓mb_5 hM, ↓mb_6 hM, ↓mb_7 hM, ↓mb_9 hM, ↓mb_10 hM, ↓mb_12 hM, ↓mb_22 hM, ↓mb_24 hM, ↓mb_25 hM, ↓mb_27 hM, ↓mb_28 hM, ↓mb_31 hM, ↓mb_32 hM, ↓mb_33 hM, ↓mb_35 hM, ↓mb_36 hM, ↓mb_37 hM, ↓mb_41 hM, ↓mb_42 hM, ↓mb_43 hM, ↓mb_44 hM, ↓mb_45 hM, ↓mb_46 hM, ↓mb_47 hM, ↓mb_48 hM, ↓mb_49 hM, ↓mb_55 hM, hM, h]
theorem m_tellE (hM : MSh m T N R) {x : Int32} {e : Nat} (h : isE x e) : fX5_tell T N I R m x = some (x, rfM m x e I) := by
  obtain ⟨h1, h2, h3⟩ := h
  unfold fX5_tell fX5_tell_b10 rfM
  simp (disch := omega) only [↓nm_v, ↓tg, ↓rA, ↓chk_if, ↓reduceIte, inb_ii, ii_nat, ii_add, and_self, bi_zb, if_bi, if_bi1, ii_leT, ii_leF, ii_ltT, ii_ltF, ii_eqF, ii_m1F, ↓mb_2 hM, ↓mb_3 hM, ↓mb_4 hM, ↓mb_5 hM, ↓mb_6 hM, ↓mb_7 hM, ↓mb_9 hM, ↓mb_10 hM, ↓mb_12 hM, ↓mb_22 hM, ↓mb_24 hM, ↓mb_25 hM, ↓mb_27 hM, ↓mb_28 hM, ↓mb_31 hM, ↓mb_32 hM, ↓mb_33 hM, ↓mb_35 hM, ↓mb_36 hM, ↓mb_37 hM, ↓mb_41 hM, ↓mb_42 hM, ↓mb_43 hM, ↓mb_44 hM, ↓mb_45 hM, ↓mb_46 hM, ↓mb_47 hM, ↓mb_48 hM, ↓mb_49 hM, ↓mb_55 hM, hM, h3, h1, uI_ne]
theorem m_lasting0 (hM : MSh m T N R) {x : Int32} (h : ii 0 ≤ x) : fX5_lasting T N I R m x = some (x, uI (uI I m 8 (ii 0)) m 1 (ii 0)) := by
  unfold fX5_lasting fX5_lasting_b13
  simp (disch := omega) only [↓nm_v, ↓tg, ↓rA, ↓chk_if, ↓reduceIte, inb_ii, ii_nat, ii_add, and_self, bi_zb, if_bi, if_bi1, ii_leT, ii_leF, ii_ltT, ii_ltF, ii_eqF, ii_m1F, ↓mb_2 hM, ↓mb_3 hM, ↓mb_4 hM, ↓mb_5 hM, ↓mb_6 hM, ↓mb_7 hM, ↓mb_9 hM, ↓mb_10 hM, ↓mb_12 hM, ↓mb_22 hM, ↓mb_24 hM, ↓mb_25 hM, ↓mb_27 hM, ↓mb_28 hM, ↓mb_31 hM, ↓mb_32 hM, ↓mb_33 hM, ↓mb_35 hM, ↓mb_36 hM, ↓mb_37 hM, ↓mb_41 hM, ↓mb_42 hM, ↓mb_43 hM, ↓mb_44 hM, ↓mb_45 hM, ↓mb_46 hM, ↓mb_47 hM, ↓mb_48 hM, ↓mb_49 hM, ↓mb_55 hM, hM, h, ↓b2_of (m_tell0 (I := uI I m 8 (ii 0)) hM h)]
theorem m_lastingE (hM : MSh m T N R) {x : Int32} {e : Nat} (h : isE x e) : fX5_lasting T N I R m x = some (x, rfM m x e (uI I m 8 (I m 8))) := by
  unfold fX5_lasting fX5_lasting_b13
  simp (disch := omega) only [↓nm_v, ↓tg, ↓rA, ↓chk_if, ↓reduceIte, inb_ii, ii_nat, ii_add, and_self, bi_zb, if_bi, if_bi1, ii_leT, ii_leF, ii_ltT, ii_ltF, ii_eqF, ii_m1F, ↓mb_2 hM, ↓mb_3 hM, ↓mb_4 hM, ↓mb_5 hM, ↓mb_6 hM, ↓mb_7 hM, ↓mb_9 hM, ↓mb_10 hM, ↓mb_12 hM, ↓mb_22 hM, ↓mb_24 hM, ↓mb_25 hM, ↓mb_27 hM, ↓mb_28 hM, ↓mb_31 hM, ↓mb_32 hM, ↓mb_33 hM, ↓mb_35 hM, ↓mb_36 hM, ↓mb_37 hM, ↓mb_41 hM, ↓mb_42 hM, ↓mb_43 hM, ↓mb_44 hM, ↓mb_45 hM, ↓mb_46 hM, ↓mb_47 hM, ↓mb_48 hM, ↓mb_49 hM, ↓mb_55 hM, hM, h.2.2, ↓b2_of (m_tellE (I := uI I m 8 (I m 8)) hM h)]
theorem ii_ge0 {v : Nat} (h : v < 2147483648) : ii 0 ≤ ii v := by rw [ii_le (by omega) h]; exact Nat.zero_le _
theorem uI_same (I : xI) (a k : Nat) : uI I a k (I a k) = I := by
  funext b
  by_cases q : b = a
  · subst q
    funext j
    rw [uI_at]
    split
    · rename_i h; rw [h]
    · rfl
  · rw [uI_ne q]
end
