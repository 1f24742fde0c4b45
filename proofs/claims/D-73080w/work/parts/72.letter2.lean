/-! PLAIN LAND, 22: what letter answers; few -/
def letA (A B W : Nat → Nat) (Nm : Nat → Int32) (n : Nat) (x y i : Int32) : Int32 :=
  if rg x 0 7 = true ∧ rg y 0 19 = true ∧ (-2 : Int32) ≤ i then
    (if (lfN 1000000 (fwA 1000000 A B W n) A B Nm x.toNatClampNeg y n).1 = -1 then -1
     else if i = -2 then (lfN 1000000 (fwA 1000000 A B W n) A B Nm x.toNatClampNeg y n).1
     else if i = -1 then ii (lfN 1000000 (fwA 1000000 A B W n) A B Nm x.toNatClampNeg y n).2
     else wkN A B W n (neN (fwA 1000000 A B W n) A B x.toNatClampNeg (lfN 1000000 (fwA 1000000 A B W n) A B Nm x.toNatClampNeg y n).1.toNatClampNeg) i.toNatClampNeg 2304 x.toNatClampNeg 0)
  else -1
theorem i_case {i : Int32} (h : (-2 : Int32) ≤ i) : i = -2 ∨ i = -1 ∨ ∃ k : Nat, i = ii k ∧ k < 2147483648 := by
  rw [le_int, show (-2 : Int32).toInt = -2 by decide] at h
  by_cases q : 0 ≤ i.toInt
  · obtain ⟨k, h1, _, h2⟩ := ii_ex q (Int.le_refl _)
    exact Or.inr (Or.inr ⟨k, h1, h2⟩)
  · by_cases q2 : i.toInt = -1
    · right; left
      rw [← Int32.toInt_inj, q2]
      decide
    · left
      rw [← Int32.toInt_inj, show (-2 : Int32).toInt = -2 by decide]
      omega
section
variable {T N : xT} {R : xR} {I : xI} {L : xL} {c s m n nf : Nat} {A B W : Nat → Nat} {D : Nat → Nat} {Nm : Nat → Int32}
theorem c_letter (hC : CSh c s T N R) (hS : StSh s T N R) (hs : s = c + 2) (hG : GrC I s n A B W) (hP : GrP n A B W) (hN : ∀ l, l < n → I (s + 4) l = Nm l) (hnf : 3000 < nf) (x y i : Int32) :
    ∃ v, fX0_letter nf T N I R c x y i = some (letA A B W Nm n x y i, sI I (c + 34) v) := by
  unfold fX0_letter letA
  cases h1 : rg x 0 7 with
  | false =>
    refine ⟨I (c + 34), ?_⟩
    rw [sI_id]
    simp (disch := omega) only [↓nm_v, ↓tg, ↓rA, ↓chk_if, ↓reduceIte, inb_ii, ii_nat, ii_add, and_self, bi_zb, if_bi, if_bi1, ii_leT, ii_leF, ii_ltT, ii_ltF, ii_eqF, ii_m1F, ↓cb_2 hC, ↓cb_1 hC, ↓cb_3 hC, ↓cb_4 hC, ↓cb_5 hC, ↓cb_6 hC, ↓cb_7 hC, ↓cb_10 hC, ↓cb_17 hC, ↓cb_18 hC, ↓cb_19 hC, ↓cb_20 hC, ↓cb_21 hC, ↓cb_22 hC, ↓cb_23 hC, ↓cb_8 hC, ↓cb_9 hC, ↓cb_24 hC, ↓cb_16 hC, ↓cb29_0 hC, ↓cb29_1 hC, ↓sb_0 hS, ↓sb1_0 hS, ↓sb1_1 hS, ↓sb1_2 hS, ↓sb_1 hS, ↓sb_2 hS, ↓sb_3 hS, ↓sb_4 hS, ↓sb_5 hS, ↓sb_6 hS, ↓sb_7 hS, hC, hS, ↓bn_of (c_isCorner x), h1, false_and, Bool.false_eq_true]
  | true =>
    cases h2 : rg y 0 19 with
    | false =>
      refine ⟨I (c + 34), ?_⟩
      rw [sI_id]
      simp (disch := omega) only [↓nm_v, ↓tg, ↓rA, ↓chk_if, ↓reduceIte, inb_ii, ii_nat, ii_add, and_self, bi_zb, if_bi, if_bi1, ii_leT, ii_leF, ii_ltT, ii_ltF, ii_eqF, ii_m1F, ↓cb_2 hC, ↓cb_1 hC, ↓cb_3 hC, ↓cb_4 hC, ↓cb_5 hC, ↓cb_6 hC, ↓cb_7 hC, ↓cb_10 hC, ↓cb_17 hC, ↓cb_18 hC, ↓cb_19 hC, ↓cb_20 hC, ↓cb_21 hC, ↓cb_22 hC, ↓cb_23 hC, ↓cb_8 hC, ↓cb_9 hC, ↓cb_24 hC, ↓cb_16 hC, ↓cb29_0 hC, ↓cb29_1 hC, ↓sb_0 hS, ↓sb1_0 hS, ↓sb1_1 hS, ↓sb1_2 hS, ↓sb_1 hS, ↓sb_2 hS, ↓sb_3 hS, ↓sb_4 hS, ↓sb_5 hS, ↓sb_6 hS, ↓sb_7 hS, hC, hS, ↓bn_of (c_isCorner x), ↓bn_of (c_i0_19 y), h1, h2, false_and, and_false, Bool.false_eq_true]
    | true =>
      by_cases h3 : (-2 : Int32) ≤ i
      · obtain ⟨f, rfl, hf⟩ := rg7 h1
        obtain ⟨v, e, hv⟩ := c_laysFar hC hS hs hG hP (show 70 < nf by omega)
        refine ⟨v, ?_⟩
        have hD := fw_le64 (fwK 1000000 hP).1
        have hG' := GrC_s hG (a := c + 34) (by omega) v
        have hN' : ∀ l, l < n → sI I (c + 34) v (s + 4) l = Nm l := by
          rw [sI_ne (by omega)]
          exact hN
        have hx : arN 64 (sI I (c + 34) v (c + 34)) (fwA 1000000 A B W n) := by rw [sI_at]; exact hv
        have h2' := fw_two (F := 1000000) (G := 100000000) (by omega) (by omega) hP.2.1 hP.2.2.1 hP.2.2.2.1 hP.2.2.2.2
        have elf := c_laneFor hC hS hG' hP hN' hx hD (show 70 < nf by omega) hf y
        rcases lf_two (Nm := Nm) (x := y) h2' hf hP.2.1 hP.2.2.1 with ⟨l1, _⟩ | ⟨l, hl, l1, _, l3⟩
        · simp (disch := omega) only [↓nm_v, ↓tg, ↓rA, ↓chk_if, ↓reduceIte, inb_ii, ii_nat, ii_add, and_self, bi_zb, if_bi, if_bi1, ii_leT, ii_leF, ii_ltT, ii_ltF, ii_eqF, ii_m1F, ↓cb_2 hC, ↓cb_1 hC, ↓cb_3 hC, ↓cb_4 hC, ↓cb_5 hC, ↓cb_6 hC, ↓cb_7 hC, ↓cb_10 hC, ↓cb_17 hC, ↓cb_18 hC, ↓cb_19 hC, ↓cb_20 hC, ↓cb_21 hC, ↓cb_22 hC, ↓cb_23 hC, ↓cb_8 hC, ↓cb_9 hC, ↓cb_24 hC, ↓cb_16 hC, ↓cb29_0 hC, ↓cb29_1 hC, ↓sb_0 hS, ↓sb1_0 hS, ↓sb1_1 hS, ↓sb1_2 hS, ↓sb_1 hS, ↓sb_2 hS, ↓sb_3 hS, ↓sb_4 hS, ↓sb_5 hS, ↓sb_6 hS, ↓sb_7 hS, hC, hS, ↓bn_of (c_isCorner (ii f)), ↓bn_of (c_i0_19 y), h1, h2, h3, ↓bn_of e, ↓bn_of elf, l1]
        · have hn := hP.1
          have hne := neN_lt (D := fwA 1000000 A B W n) (f := f) (hP.2.1 l hl) (hP.2.2.1 l hl)
          have ene := c_nearerEnd hC hS hG' hP hx hD hf hl
          rcases i_case h3 with rfl | rfl | ⟨k, rfl, hk⟩
          · simp (disch := omega) only [↓nm_v, ↓tg, ↓rA, ↓chk_if, ↓reduceIte, inb_ii, ii_nat, ii_add, and_self, bi_zb, if_bi, if_bi1, ii_leT, ii_leF, ii_ltT, ii_ltF, ii_eqF, ii_m1F, ↓cb_2 hC, ↓cb_1 hC, ↓cb_3 hC, ↓cb_4 hC, ↓cb_5 hC, ↓cb_6 hC, ↓cb_7 hC, ↓cb_10 hC, ↓cb_17 hC, ↓cb_18 hC, ↓cb_19 hC, ↓cb_20 hC, ↓cb_21 hC, ↓cb_22 hC, ↓cb_23 hC, ↓cb_8 hC, ↓cb_9 hC, ↓cb_24 hC, ↓cb_16 hC, ↓cb29_0 hC, ↓cb29_1 hC, ↓sb_0 hS, ↓sb1_0 hS, ↓sb1_1 hS, ↓sb1_2 hS, ↓sb_1 hS, ↓sb_2 hS, ↓sb_3 hS, ↓sb_4 hS, ↓sb_5 hS, ↓sb_6 hS, ↓sb_7 hS, hC, hS, ↓bn_of (c_isCorner (ii f)), ↓bn_of (c_i0_19 y), h1, h2, h3, ↓bn_of e, ↓bn_of elf, l1]
          · have h32 : ((-1 : Int32) = -2) = False := eq_false (by decide)
            simp (disch := omega) only [↓nm_v, ↓tg, ↓rA, ↓chk_if, ↓reduceIte, inb_ii, ii_nat, ii_add, and_self, bi_zb, if_bi, if_bi1, ii_leT, ii_leF, ii_ltT, ii_ltF, ii_eqF, ii_m1F, ↓cb_2 hC, ↓cb_1 hC, ↓cb_3 hC, ↓cb_4 hC, ↓cb_5 hC, ↓cb_6 hC, ↓cb_7 hC, ↓cb_10 hC, ↓cb_17 hC, ↓cb_18 hC, ↓cb_19 hC, ↓cb_20 hC, ↓cb_21 hC, ↓cb_22 hC, ↓cb_23 hC, ↓cb_8 hC, ↓cb_9 hC, ↓cb_24 hC, ↓cb_16 hC, ↓cb29_0 hC, ↓cb29_1 hC, ↓sb_0 hS, ↓sb1_0 hS, ↓sb1_1 hS, ↓sb1_2 hS, ↓sb_1 hS, ↓sb_2 hS, ↓sb_3 hS, ↓sb_4 hS, ↓sb_5 hS, ↓sb_6 hS, ↓sb_7 hS, hC, hS, ↓bn_of (c_isCorner (ii f)), ↓bn_of (c_i0_19 y), h1, h2, h3, ↓bn_of e, ↓bn_of elf, l1, h32, ↓bn_of ene, ↓bn_of (c_farOf hC hS hx hf hne)]
          · simp (disch := omega) only [↓nm_v, ↓tg, ↓rA, ↓chk_if, ↓reduceIte, inb_ii, ii_nat, ii_add, and_self, bi_zb, if_bi, if_bi1, ii_leT, ii_leF, ii_ltT, ii_ltF, ii_eqF, ii_m1F, ↓cb_2 hC, ↓cb_1 hC, ↓cb_3 hC, ↓cb_4 hC, ↓cb_5 hC, ↓cb_6 hC, ↓cb_7 hC, ↓cb_10 hC, ↓cb_17 hC, ↓cb_18 hC, ↓cb_19 hC, ↓cb_20 hC, ↓cb_21 hC, ↓cb_22 hC, ↓cb_23 hC, ↓cb_8 hC, ↓cb_9 hC, ↓cb_24 hC, ↓cb_16 hC, ↓cb29_0 hC, ↓cb29_1 hC, ↓sb_0 hS, ↓sb1_0 hS, ↓sb1_1 hS, ↓sb1_2 hS, ↓sb_1 hS, ↓sb_2 hS, ↓sb_3 hS, ↓sb_4 hS, ↓sb_5 hS, ↓sb_6 hS, ↓sb_7 hS, hC, hS, ↓bn_of (c_isCorner (ii f)), ↓bn_of (c_i0_19 y), h1, h2, h3, ↓bn_of e, ↓bn_of elf, l1, ii_m2F, ↓bn_of ene]
            exact c_walk hC hS hG' hP hx (by omega) hne hk 2304 f 0 nf hf l3 (by omega) (by omega) (by omega)
      · refine ⟨I (c + 34), ?_⟩
        rw [sI_id]
        simp (disch := omega) only [↓nm_v, ↓tg, ↓rA, ↓chk_if, ↓reduceIte, inb_ii, ii_nat, ii_add, and_self, bi_zb, if_bi, if_bi1, ii_leT, ii_leF, ii_ltT, ii_ltF, ii_eqF, ii_m1F, ↓cb_2 hC, ↓cb_1 hC, ↓cb_3 hC, ↓cb_4 hC, ↓cb_5 hC, ↓cb_6 hC, ↓cb_7 hC, ↓cb_10 hC, ↓cb_17 hC, ↓cb_18 hC, ↓cb_19 hC, ↓cb_20 hC, ↓cb_21 hC, ↓cb_22 hC, ↓cb_23 hC, ↓cb_8 hC, ↓cb_9 hC, ↓cb_24 hC, ↓cb_16 hC, ↓cb29_0 hC, ↓cb29_1 hC, ↓sb_0 hS, ↓sb1_0 hS, ↓sb1_1 hS, ↓sb1_2 hS, ↓sb_1 hS, ↓sb_2 hS, ↓sb_3 hS, ↓sb_4 hS, ↓sb_5 hS, ↓sb_6 hS, ↓sb_7 hS, hC, hS, ↓bn_of (c_isCorner x), ↓bn_of (c_i0_19 y), h1, h2, h3, and_false]
theorem m_letter (hM : MSh m T N R) (hG : GrM I m n A B W) (hP : GrP n A B W) (hN : ∀ l, l < n → I (m + 2) (8 + l) = Nm l) (hnf : 3000 < nf) (x y i : Int32) :
    ∃ v, fX5_letter nf T N I R m x y i = some (letA A B W Nm n x y i, sI (uI I m 0 (ii 0)) (m + 22) v) := by
  have hG2 := GrM_t hG 0 (ii 0)
  unfold fX5_letter letA
  cases h1 : rg x 0 7 with
  | false =>
    refine ⟨uI I m 0 (ii 0) (m + 22), ?_⟩
    rw [sI_id]
    simp (disch := omega) only [↓nm_v, ↓tg, ↓rA, ↓chk_if, ↓reduceIte, inb_ii, ii_nat, ii_add, and_self, bi_zb, if_bi, if_bi1, ii_leT, ii_leF, ii_ltT, ii_ltF, ii_eqF, ii_m1F, ↓mb_2 hM, ↓mb_3 hM, ↓mb_4 hM, ↓mb_5 hM, ↓mb_6 hM, ↓mb_7 hM, ↓mb_9 hM, ↓mb_10 hM, ↓mb_12 hM, ↓mb_22 hM, ↓mb_24 hM, ↓mb_25 hM, ↓mb_27 hM, ↓mb_28 hM, ↓mb_31 hM, ↓mb_32 hM, ↓mb_33 hM, ↓mb_35 hM, ↓mb_36 hM, ↓mb_37 hM, ↓mb_41 hM, ↓mb_42 hM, ↓mb_43 hM, ↓mb_44 hM, ↓mb_45 hM, ↓mb_46 hM, ↓mb_47 hM, ↓mb_48 hM, ↓mb_49 hM, ↓mb_55 hM, hM, ↓bn_of (m_isCorner x), h1, false_and, Bool.false_eq_true]
  | true =>
    cases h2 : rg y 0 19 with
    | false =>
      refine ⟨uI I m 0 (ii 0) (m + 22), ?_⟩
      rw [sI_id]
      simp (disch := omega) only [↓nm_v, ↓tg, ↓rA, ↓chk_if, ↓reduceIte, inb_ii, ii_nat, ii_add, and_self, bi_zb, if_bi, if_bi1, ii_leT, ii_leF, ii_ltT, ii_ltF, ii_eqF, ii_m1F, ↓mb_2 hM, ↓mb_3 hM, ↓mb_4 hM, ↓mb_5 hM, ↓mb_6 hM, ↓mb_7 hM, ↓mb_9 hM, ↓mb_10 hM, ↓mb_12 hM, ↓mb_22 hM, ↓mb_24 hM, ↓mb_25 hM, ↓mb_27 hM, ↓mb_28 hM, ↓mb_31 hM, ↓mb_32 hM, ↓mb_33 hM, ↓mb_35 hM, ↓mb_36 hM, ↓mb_37 hM, ↓mb_41 hM, ↓mb_42 hM, ↓mb_43 hM, ↓mb_44 hM, ↓mb_45 hM, ↓mb_46 hM, ↓mb_47 hM, ↓mb_48 hM, ↓mb_49 hM, ↓mb_55 hM, hM, ↓bn_of (m_isCorner x), ↓bn_of (m_i0_19 y), h1, h2, false_and, and_false, Bool.false_eq_true]
    | true =>
      by_cases h3 : (-2 : Int32) ≤ i
      · obtain ⟨f, rfl, hf⟩ := rg7 h1
        obtain ⟨v, e, hv⟩ := m_layFar hM hG2 hP (show 70 < nf by omega)
        refine ⟨v, ?_⟩
        have hD := fw_le64 (fwK 100000000 hP).1
        have hG' := GrM_s hG2 (a := m + 22) (by omega) v
        have hN' : ∀ l, l < n → sI (uI I m 0 (ii 0)) (m + 22) v (m + 2) (8 + l) = Nm l := by
          rw [sI_ne (by omega), uI_ne (by omega)]
          exact hN
        have hx : arN 64 (sI (uI I m 0 (ii 0)) (m + 22) v (m + 22)) (fwA 100000000 A B W n) := by rw [sI_at]; exact hv
        have h2' := fw_two (F := 1000000) (G := 100000000) (by omega) (by omega) hP.2.1 hP.2.2.1 hP.2.2.2.1 hP.2.2.2.2
        have hn := hP.1
        simp (disch := omega) only [↓nm_v, ↓tg, ↓rA, ↓chk_if, ↓reduceIte, inb_ii, ii_nat, ii_add, and_self, bi_zb, if_bi, if_bi1, ii_leT, ii_leF, ii_ltT, ii_ltF, ii_eqF, ii_m1F, ↓mb_2 hM, ↓mb_3 hM, ↓mb_4 hM, ↓mb_5 hM, ↓mb_6 hM, ↓mb_7 hM, ↓mb_9 hM, ↓mb_10 hM, ↓mb_12 hM, ↓mb_22 hM, ↓mb_24 hM, ↓mb_25 hM, ↓mb_27 hM, ↓mb_28 hM, ↓mb_31 hM, ↓mb_32 hM, ↓mb_33 hM, ↓mb_35 hM, ↓mb_36 hM, ↓mb_37 hM, ↓mb_41 hM, ↓mb_42 hM, ↓mb_43 hM, ↓mb_44 hM, ↓mb_45 hM, ↓mb_46 hM, ↓mb_47 hM, ↓mb_48 hM, ↓mb_49 hM, ↓mb_55 hM, hM, ↓bn_of (m_isCorner (ii f)), ↓bn_of (m_i0_19 y), h1, h2, h3, ↓bn_of e]
        generalize sI (uI I m 0 (ii 0)) (m + 22) v = J at hG' hN' hx ⊢
        have loop := loop_up (fun q (p : Int32 × Nat) l => fX5_letter_b47 nf T N R q J m (ii f) y i (ii p.2) p.1 (ii l)) (lfS (fwA 100000000 A B W n) A B Nm f y) (fun _ p => p.2 ≤ 100000000) n (fun p => if p.1 = -1 then some (p.1, J) else if (ii 0) ≤ i then ((fX5_nearEnd T N J R m (ii f) p.1).bind fun r7 => fX5_letter_b169 nf T N R nf J m i r7 (ii f) (ii 0)) else if i = -2 then some (p.1, J) else some (ii p.2, J)) ?_ ?_ n 0 (-1, 100000000) nf (by omega) (by omega) (by decide)
        · refine loop.trans ?_
          show (if (lfN 100000000 (fwA 100000000 A B W n) A B Nm f y n).1 = -1 then some ((lfN 100000000 (fwA 100000000 A B W n) A B Nm f y n).1, J) else if (ii 0) ≤ i then ((fX5_nearEnd T N J R m (ii f) (lfN 100000000 (fwA 100000000 A B W n) A B Nm f y n).1).bind fun r7 => fX5_letter_b169 nf T N R nf J m i r7 (ii f) (ii 0)) else if i = -2 then some ((lfN 100000000 (fwA 100000000 A B W n) A B Nm f y n).1, J) else some (ii (lfN 100000000 (fwA 100000000 A B W n) A B Nm f y n).2, J)) = _
          rcases lf_two (Nm := Nm) (x := y) h2' hf hP.2.1 hP.2.2.1 with ⟨l1, l2⟩ | ⟨l, hl, l1, l2, l3⟩
          · rw [l1, l2]
            rfl
          · have hne := neN_lt (D := fwA 1000000 A B W n) (f := f) (hP.2.1 l hl) (hP.2.2.1 l hl)
            have ene := m_nearEnd hM hG' hP hx hD hf hl
            rw [← neN_two h2' hf (hP.2.1 l hl) (hP.2.2.1 l hl)] at ene
            rcases i_case h3 with rfl | rfl | ⟨k, rfl, hk⟩
            · have h4 : (ii 0 ≤ (-2 : Int32)) = False := eq_false (by decide)
              simp (disch := omega) only [↓nm_v, ↓tg, ↓rA, ↓chk_if, ↓reduceIte, inb_ii, ii_nat, ii_add, and_self, bi_zb, if_bi, if_bi1, ii_leT, ii_leF, ii_ltT, ii_ltF, ii_eqF, ii_m1F, ↓mb_2 hM, ↓mb_3 hM, ↓mb_4 hM, ↓mb_5 hM, ↓mb_6 hM, ↓mb_7 hM, ↓mb_9 hM, ↓mb_10 hM, ↓mb_12 hM, ↓mb_22 hM, ↓mb_24 hM, ↓mb_25 hM, ↓mb_27 hM, ↓mb_28 hM, ↓mb_31 hM, ↓mb_32 hM, ↓mb_33 hM, ↓mb_35 hM, ↓mb_36 hM, ↓mb_37 hM, ↓mb_41 hM, ↓mb_42 hM, ↓mb_43 hM, ↓mb_44 hM, ↓mb_45 hM, ↓mb_46 hM, ↓mb_47 hM, ↓mb_48 hM, ↓mb_49 hM, ↓mb_55 hM, hM, l1, l2, h4]
            · have h4 : (ii 0 ≤ (-1 : Int32)) = False := eq_false (by decide)
              have h32 : ((-1 : Int32) = -2) = False := eq_false (by decide)
              simp (disch := omega) only [↓nm_v, ↓tg, ↓rA, ↓chk_if, ↓reduceIte, inb_ii, ii_nat, ii_add, and_self, bi_zb, if_bi, if_bi1, ii_leT, ii_leF, ii_ltT, ii_ltF, ii_eqF, ii_m1F, ↓mb_2 hM, ↓mb_3 hM, ↓mb_4 hM, ↓mb_5 hM, ↓mb_6 hM, ↓mb_7 hM, ↓mb_9 hM, ↓mb_10 hM, ↓mb_12 hM, ↓mb_22 hM, ↓mb_24 hM, ↓mb_25 hM, ↓mb_27 hM, ↓mb_28 hM, ↓mb_31 hM, ↓mb_32 hM, ↓mb_33 hM, ↓mb_35 hM, ↓mb_36 hM, ↓mb_37 hM, ↓mb_41 hM, ↓mb_42 hM, ↓mb_43 hM, ↓mb_44 hM, ↓mb_45 hM, ↓mb_46 hM, ↓mb_47 hM, ↓mb_48 hM, ↓mb_49 hM, ↓mb_55 hM, hM, l1, l2, h4, h32]
            · simp (disch := omega) only [↓nm_v, ↓tg, ↓rA, ↓chk_if, ↓reduceIte, inb_ii, ii_nat, ii_add, and_self, bi_zb, if_bi, if_bi1, ii_leT, ii_leF, ii_ltT, ii_ltF, ii_eqF, ii_m1F, ↓mb_2 hM, ↓mb_3 hM, ↓mb_4 hM, ↓mb_5 hM, ↓mb_6 hM, ↓mb_7 hM, ↓mb_9 hM, ↓mb_10 hM, ↓mb_12 hM, ↓mb_22 hM, ↓mb_24 hM, ↓mb_25 hM, ↓mb_27 hM, ↓mb_28 hM, ↓mb_31 hM, ↓mb_32 hM, ↓mb_33 hM, ↓mb_35 hM, ↓mb_36 hM, ↓mb_37 hM, ↓mb_41 hM, ↓mb_42 hM, ↓mb_43 hM, ↓mb_44 hM, ↓mb_45 hM, ↓mb_46 hM, ↓mb_47 hM, ↓mb_48 hM, ↓mb_49 hM, ↓mb_55 hM, hM, l1, l2, ii_m2F, ↓bn_of ene]
              exact m_walk hM hG' hP hx (by omega) hne hk 2304 f 0 nf hf l3 (by omega) (by omega) (by omega)
        · rintro q ⟨b, w⟩ l hl hw
          have hw : w ≤ 100000000 := hw
          have a1 := hP.2.1 l hl
          have a2 := hP.2.2.1 l hl
          have hne := neN_lt (D := fwA 100000000 A B W n) (f := f) a1 a2
          have d1 := hD (8 * f + neN (fwA 100000000 A B W n) A B f l) (by omega)
          have e := hN' l hl
          refine ⟨?_, ?_⟩
          · show fX5_letter_b47 nf T N R (q + 1) J m (ii f) y i (ii w) b (ii l) = fX5_letter_b47 nf T N R q J m (ii f) y i (ii (lfS (fwA 100000000 A B W n) A B Nm f y l (b, w)).2) (lfS (fwA 100000000 A B W n) A B Nm f y l (b, w)).1 (ii (l + 1))
            rw [fX5_letter_b47]
            unfold lfS
            by_cases q1 : Nm l = y
            · by_cases q2 : fwA 100000000 A B W n (8 * f + neN (fwA 100000000 A B W n) A B f l) < w
              · simp (disch := omega) only [↓nm_v, ↓tg, ↓rA, ↓chk_if, ↓reduceIte, inb_ii, ii_nat, ii_add, and_self, bi_zb, if_bi, if_bi1, ii_leT, ii_leF, ii_ltT, ii_ltF, ii_eqF, ii_m1F, ↓mb_2 hM, ↓mb_3 hM, ↓mb_4 hM, ↓mb_5 hM, ↓mb_6 hM, ↓mb_7 hM, ↓mb_9 hM, ↓mb_10 hM, ↓mb_12 hM, ↓mb_22 hM, ↓mb_24 hM, ↓mb_25 hM, ↓mb_27 hM, ↓mb_28 hM, ↓mb_31 hM, ↓mb_32 hM, ↓mb_33 hM, ↓mb_35 hM, ↓mb_36 hM, ↓mb_37 hM, ↓mb_41 hM, ↓mb_42 hM, ↓mb_43 hM, ↓mb_44 hM, ↓mb_45 hM, ↓mb_46 hM, ↓mb_47 hM, ↓mb_48 hM, ↓mb_49 hM, ↓mb_55 hM, hM, fX5_letter_b100, hG', e, q1, ↓bn_of (m_nearEnd hM hG' hP hx hD hf hl), ↓bn_of (m_farOf hM hx hD hf hne), q2]
              · simp (disch := omega) only [↓nm_v, ↓tg, ↓rA, ↓chk_if, ↓reduceIte, inb_ii, ii_nat, ii_add, and_self, bi_zb, if_bi, if_bi1, ii_leT, ii_leF, ii_ltT, ii_ltF, ii_eqF, ii_m1F, ↓mb_2 hM, ↓mb_3 hM, ↓mb_4 hM, ↓mb_5 hM, ↓mb_6 hM, ↓mb_7 hM, ↓mb_9 hM, ↓mb_10 hM, ↓mb_12 hM, ↓mb_22 hM, ↓mb_24 hM, ↓mb_25 hM, ↓mb_27 hM, ↓mb_28 hM, ↓mb_31 hM, ↓mb_32 hM, ↓mb_33 hM, ↓mb_35 hM, ↓mb_36 hM, ↓mb_37 hM, ↓mb_41 hM, ↓mb_42 hM, ↓mb_43 hM, ↓mb_44 hM, ↓mb_45 hM, ↓mb_46 hM, ↓mb_47 hM, ↓mb_48 hM, ↓mb_49 hM, ↓mb_55 hM, hM, fX5_letter_b100, hG', e, q1, ↓bn_of (m_nearEnd hM hG' hP hx hD hf hl), ↓bn_of (m_farOf hM hx hD hf hne), q2, and_false]
            · simp (disch := omega) only [↓nm_v, ↓tg, ↓rA, ↓chk_if, ↓reduceIte, inb_ii, ii_nat, ii_add, and_self, bi_zb, if_bi, if_bi1, ii_leT, ii_leF, ii_ltT, ii_ltF, ii_eqF, ii_m1F, ↓mb_2 hM, ↓mb_3 hM, ↓mb_4 hM, ↓mb_5 hM, ↓mb_6 hM, ↓mb_7 hM, ↓mb_9 hM, ↓mb_10 hM, ↓mb_12 hM, ↓mb_22 hM, ↓mb_24 hM, ↓mb_25 hM, ↓mb_27 hM, ↓mb_28 hM, ↓mb_31 hM, ↓mb_32 hM, ↓mb_33 hM, ↓mb_35 hM, ↓mb_36 hM, ↓mb_37 hM, ↓mb_41 hM, ↓mb_42 hM, ↓mb_43 hM, ↓mb_44 hM, ↓mb_45 hM, ↓mb_46 hM, ↓mb_47 hM, ↓mb_48 hM, ↓mb_49 hM, ↓mb_55 hM, hM, hG', e, q1, false_and]
          · show (lfS (fwA 100000000 A B W n) A B Nm f y l (b, w)).2 ≤ 100000000
            unfold lfS
            split
            · exact d1
            · exact hw
        · rintro q ⟨b, w⟩ _
          show fX5_letter_b47 nf T N R (q + 1) J m (ii f) y i (ii w) b (ii n) = _
          rw [fX5_letter_b47, fX5_letter_b134]
          by_cases q1 : b = -1
          · simp (disch := omega) only [↓nm_v, ↓tg, ↓rA, ↓chk_if, ↓reduceIte, inb_ii, ii_nat, ii_add, and_self, bi_zb, if_bi, if_bi1, ii_leT, ii_leF, ii_ltT, ii_ltF, ii_eqF, ii_m1F, ↓mb_2 hM, ↓mb_3 hM, ↓mb_4 hM, ↓mb_5 hM, ↓mb_6 hM, ↓mb_7 hM, ↓mb_9 hM, ↓mb_10 hM, ↓mb_12 hM, ↓mb_22 hM, ↓mb_24 hM, ↓mb_25 hM, ↓mb_27 hM, ↓mb_28 hM, ↓mb_31 hM, ↓mb_32 hM, ↓mb_33 hM, ↓mb_35 hM, ↓mb_36 hM, ↓mb_37 hM, ↓mb_41 hM, ↓mb_42 hM, ↓mb_43 hM, ↓mb_44 hM, ↓mb_45 hM, ↓mb_46 hM, ↓mb_47 hM, ↓mb_48 hM, ↓mb_49 hM, ↓mb_55 hM, hM, hG', q1]
          · by_cases q2 : ii 0 ≤ i
            · simp (disch := omega) only [↓nm_v, ↓tg, ↓rA, ↓chk_if, ↓reduceIte, inb_ii, ii_nat, ii_add, and_self, bi_zb, if_bi, if_bi1, ii_leT, ii_leF, ii_ltT, ii_ltF, ii_eqF, ii_m1F, ↓mb_2 hM, ↓mb_3 hM, ↓mb_4 hM, ↓mb_5 hM, ↓mb_6 hM, ↓mb_7 hM, ↓mb_9 hM, ↓mb_10 hM, ↓mb_12 hM, ↓mb_22 hM, ↓mb_24 hM, ↓mb_25 hM, ↓mb_27 hM, ↓mb_28 hM, ↓mb_31 hM, ↓mb_32 hM, ↓mb_33 hM, ↓mb_35 hM, ↓mb_36 hM, ↓mb_37 hM, ↓mb_41 hM, ↓mb_42 hM, ↓mb_43 hM, ↓mb_44 hM, ↓mb_45 hM, ↓mb_46 hM, ↓mb_47 hM, ↓mb_48 hM, ↓mb_49 hM, ↓mb_55 hM, hM, hG', q1, q2]
            · by_cases q3 : i = -2
              · simp (disch := omega) only [↓nm_v, ↓tg, ↓rA, ↓chk_if, ↓reduceIte, inb_ii, ii_nat, ii_add, and_self, bi_zb, if_bi, if_bi1, ii_leT, ii_leF, ii_ltT, ii_ltF, ii_eqF, ii_m1F, ↓mb_2 hM, ↓mb_3 hM, ↓mb_4 hM, ↓mb_5 hM, ↓mb_6 hM, ↓mb_7 hM, ↓mb_9 hM, ↓mb_10 hM, ↓mb_12 hM, ↓mb_22 hM, ↓mb_24 hM, ↓mb_25 hM, ↓mb_27 hM, ↓mb_28 hM, ↓mb_31 hM, ↓mb_32 hM, ↓mb_33 hM, ↓mb_35 hM, ↓mb_36 hM, ↓mb_37 hM, ↓mb_41 hM, ↓mb_42 hM, ↓mb_43 hM, ↓mb_44 hM, ↓mb_45 hM, ↓mb_46 hM, ↓mb_47 hM, ↓mb_48 hM, ↓mb_49 hM, ↓mb_55 hM, hM, hG', q1, q2, q3]
              · simp (disch := omega) only [↓nm_v, ↓tg, ↓rA, ↓chk_if, ↓reduceIte, inb_ii, ii_nat, ii_add, and_self, bi_zb, if_bi, if_bi1, ii_leT, ii_leF, ii_ltT, ii_ltF, ii_eqF, ii_m1F, ↓mb_2 hM, ↓mb_3 hM, ↓mb_4 hM, ↓mb_5 hM, ↓mb_6 hM, ↓mb_7 hM, ↓mb_9 hM, ↓mb_10 hM, ↓mb_12 hM, ↓mb_22 hM, ↓mb_24 hM, ↓mb_25 hM, ↓mb_27 hM, ↓mb_28 hM, ↓mb_31 hM, ↓mb_32 hM, ↓mb_33 hM, ↓mb_35 hM, ↓mb_36 hM, ↓mb_37 hM, ↓mb_41 hM, ↓mb_42 hM, ↓mb_43 hM, ↓mb_44 hM, ↓mb_45 hM, ↓mb_46 hM, ↓mb_47 hM, ↓mb_48 hM, ↓mb_49 hM, ↓mb_55 hM, hM, hG', q1, q2, q3]
      · refine ⟨uI I m 0 (ii 0) (m + 22), ?_⟩
        rw [sI_id]
        simp (disch := omega) only [↓nm_v, ↓tg, ↓rA, ↓chk_if, ↓reduceIte, inb_ii, ii_nat, ii_add, and_self, bi_zb, if_bi, if_bi1, ii_leT, ii_leF, ii_ltT, ii_ltF, ii_eqF, ii_m1F, ↓mb_2 hM, ↓mb_3 hM, ↓mb_4 hM, ↓mb_5 hM, ↓mb_6 hM, ↓mb_7 hM, ↓mb_9 hM, ↓mb_10 hM, ↓mb_12 hM, ↓mb_22 hM, ↓mb_24 hM, ↓mb_25 hM, ↓mb_27 hM, ↓mb_28 hM, ↓mb_31 hM, ↓mb_32 hM, ↓mb_33 hM, ↓mb_35 hM, ↓mb_36 hM, ↓mb_37 hM, ↓mb_41 hM, ↓mb_42 hM, ↓mb_43 hM, ↓mb_44 hM, ↓mb_45 hM, ↓mb_46 hM, ↓mb_47 hM, ↓mb_48 hM, ↓mb_49 hM, ↓mb_55 hM, hM, ↓bn_of (m_isCorner x), ↓bn_of (m_i0_19 y), h1, h2, h3, and_false]
end
