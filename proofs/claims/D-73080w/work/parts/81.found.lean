/-! PLAIN LAND, 31: found, both sides -/
section
variable {T N T0 N0 : xT} {R R0 : xR} {I I0 : xI} {L : xL} {c s t u m n k nf H : Nat} {D : Laws} {fz : Nat → Prop} {g g' tx : Nat → Int32} {A B W : Nat → Nat} {Fd : Nat → Nat}
def fdP (Fd : Nat → Nat) (D : Laws) (n k : Nat) (g : Nat → Int32) (f ch i : Nat) : Bool := decide (Fd (8 * f + na (pasN D n k i g) (18 + ch)) ≤ i)
def fdN (F f : Nat) : Nat := if f ≤ 60 then f else F
theorem c_foundFrom (E : CE nf c s D fz T0 N0 I0 R0 T N R I) (hr : StR I s g) (ht : TbR I (s + 1) g) (ho : rOK g n k H) (hH : H ≤ 1000) (hnf : 70 < nf) (hx : arN 64 (I (c + 34)) Fd) (hF : ∀ j, j < 64 → Fd j ≤ 1000000) {f ch : Nat} (hf : f < 8) (hch : ch < k) :
    ∃ I' w, fX0_foundFrom nf T N I L R c (ii f) (ii ch) = some (ii (fdN 1000000 (fnd (fdP Fd D n k g f ch) 61 0)), I', sL L (c + 31) w) ∧ tr c I I' := by
  obtain ⟨h1, h2, h3, h4, hC, hS, hB, h8⟩ := id E
  have hk := ho.1.2.2.2
  obtain ⟨I1, e1, g1, t1⟩ := c_take24 E ht
  have loop : ∀ (d i q : Nat) (I2 : xI) (w : Nat → Int64), i + d = 61 → d < q → TbR I2 (c + 24) (pasN D n k i g) → StR I2 s (pasN D n k i g) → tr c I I2 →
      ∃ I' w', fX0_foundFrom_b13 nf T N R q I2 (sL L (c + 31) w) c (ii f) (ii ch) (ii i) = some (ii (fdN 1000000 (fnd (fdP Fd D n k g f ch) d i)), I', sL L (c + 31) w') ∧ tr c I I' := by
    intro d
    induction d with
    | zero =>
      intro i q I2 w hi hq g2 r2 t2
      obtain ⟨q, rfl⟩ : ∃ q', q = q' + 1 := ⟨q - 1, by omega⟩
      have : i = 61 := by omega
      subst this
      refine ⟨I2, w, ?_, t2⟩
      rw [fX0_foundFrom_b13]
      simp (disch := omega) only [↓nm_v, ↓tg, ↓rA, ↓chk_if, ↓reduceIte, inb_ii, ii_nat, ii_add, and_self, bi_zb, if_bi, if_bi1, ii_leT, ii_leF, ii_ltT, ii_ltF, ii_eqF, ii_m1F, ↓cb_2 hC, ↓cb_1 hC, ↓cb_3 hC, ↓cb_4 hC, ↓cb_5 hC, ↓cb_6 hC, ↓cb_7 hC, ↓cb_10 hC, ↓cb_17 hC, ↓cb_18 hC, ↓cb_19 hC, ↓cb_20 hC, ↓cb_21 hC, ↓cb_22 hC, ↓cb_23 hC, ↓cb_8 hC, ↓cb_9 hC, ↓cb_24 hC, ↓cb_16 hC, ↓cb29_0 hC, ↓cb29_1 hC, ↓sb_0 hS, ↓sb1_0 hS, ↓sb1_1 hS, ↓sb1_2 hS, ↓sb_1 hS, ↓sb_2 hS, ↓sb_3 hS, ↓sb_4 hS, ↓sb_5 hS, ↓sb_6 hS, ↓sb_7 hS, hC, hS]
      rfl
    | succ d ih =>
      intro i q I2 w hi hq g2 r2 t2
      obtain ⟨q, rfl⟩ : ∃ q', q = q' + 1 := ⟨q - 1, by omega⟩
      obtain ⟨o1, o2⟩ := pasN_ok (D := D) ho i (by omega)
      have oa := o1.2.2.2.2.2.2.2.2.2.2.2.1 ch hch
      have ea := (g2.2.1 ch (by omega)).trans oa.1
      have hx2 : arN 64 (I2 (c + 34)) Fd := by rw [t2 (c + 34) (by omega) (by omega) (by omega)]; exact hx
      have ef := c_farOf hC hS hx2 hf oa.2
      have hb := hF (8 * f + na (pasN D n k i g) (18 + ch)) (by omega)
      rw [fX0_foundFrom_b13]
      unfold fnd
      by_cases p : fdP Fd D n k g f ch i = true
      · have p' : Fd (8 * f + na (pasN D n k i g) (18 + ch)) ≤ i := of_decide_eq_true p
        refine ⟨I2, w, ?_, t2⟩
        rw [if_pos p]
        unfold fdN
        rw [if_pos (show i ≤ 60 by omega)]
        simp (disch := omega) only [↓nm_v, ↓tg, ↓rA, ↓chk_if, ↓reduceIte, inb_ii, ii_nat, ii_add, and_self, bi_zb, if_bi, if_bi1, ii_leT, ii_leF, ii_ltT, ii_ltF, ii_eqF, ii_m1F, ↓cb_2 hC, ↓cb_1 hC, ↓cb_3 hC, ↓cb_4 hC, ↓cb_5 hC, ↓cb_6 hC, ↓cb_7 hC, ↓cb_10 hC, ↓cb_17 hC, ↓cb_18 hC, ↓cb_19 hC, ↓cb_20 hC, ↓cb_21 hC, ↓cb_22 hC, ↓cb_23 hC, ↓cb_8 hC, ↓cb_9 hC, ↓cb_24 hC, ↓cb_16 hC, ↓cb29_0 hC, ↓cb29_1 hC, ↓sb_0 hS, ↓sb1_0 hS, ↓sb1_1 hS, ↓sb1_2 hS, ↓sb_1 hS, ↓sb_2 hS, ↓sb_3 hS, ↓sb_4 hS, ↓sb_5 hS, ↓sb_6 hS, ↓sb_7 hS, hC, hS, ↓bb_0 hB, ↓bb_1 hB, ↓bb_2 hB, hB, ea, ↓bn_of ef]
      · have p' : ¬ Fd (8 * f + na (pasN D n k i g) (18 + ch)) ≤ i := fun e => p (decide_eq_true e)
        obtain ⟨I3, w3, e3, g3, r3, t3⟩ := c_try1 (L := sL L (c + 31) w) (CE_tr E t2) r2 g2 o1 (by omega) hnf
        rw [sL_sL] at e3
        obtain ⟨I5, w5, e5, t5⟩ := ih (i + 1) q I3 w3 (by omega) (by omega) (by rw [pasN_s]; exact g3) (by rw [pasN_s]; exact r3) (tr_trans t2 t3)
        refine ⟨I5, w5, ?_, t5⟩
        rw [if_neg p, ← e5]
        simp (disch := omega) only [↓nm_v, ↓tg, ↓rA, ↓chk_if, ↓reduceIte, inb_ii, ii_nat, ii_add, and_self, bi_zb, if_bi, if_bi1, ii_leT, ii_leF, ii_ltT, ii_ltF, ii_eqF, ii_m1F, ↓cb_2 hC, ↓cb_1 hC, ↓cb_3 hC, ↓cb_4 hC, ↓cb_5 hC, ↓cb_6 hC, ↓cb_7 hC, ↓cb_10 hC, ↓cb_17 hC, ↓cb_18 hC, ↓cb_19 hC, ↓cb_20 hC, ↓cb_21 hC, ↓cb_22 hC, ↓cb_23 hC, ↓cb_8 hC, ↓cb_9 hC, ↓cb_24 hC, ↓cb_16 hC, ↓cb29_0 hC, ↓cb29_1 hC, ↓sb_0 hS, ↓sb1_0 hS, ↓sb1_1 hS, ↓sb1_2 hS, ↓sb_1 hS, ↓sb_2 hS, ↓sb_3 hS, ↓sb_4 hS, ↓sb_5 hS, ↓sb_6 hS, ↓sb_7 hS, hC, hS, ↓bb_0 hB, ↓bb_1 hB, ↓bb_2 hB, hB, ea, ↓bn_of ef, ↓b3_of e3]
  obtain ⟨I5, w5, e5, t5⟩ := loop 61 0 nf I1 (L (c + 31)) (by omega) (by omega) g1 (StR_tr h4 hr t1) t1
  rw [sL_id] at e5
  refine ⟨I5, w5, ?_, t5⟩
  unfold fX0_foundFrom
  simp (disch := omega) only [↓nm_v, ↓tg, ↓rA, ↓chk_if, ↓reduceIte, inb_ii, ii_nat, ii_add, and_self, bi_zb, if_bi, if_bi1, ii_leT, ii_leF, ii_ltT, ii_ltF, ii_eqF, ii_m1F, ↓cb_2 hC, ↓cb_1 hC, ↓cb_3 hC, ↓cb_4 hC, ↓cb_5 hC, ↓cb_6 hC, ↓cb_7 hC, ↓cb_10 hC, ↓cb_17 hC, ↓cb_18 hC, ↓cb_19 hC, ↓cb_20 hC, ↓cb_21 hC, ↓cb_22 hC, ↓cb_23 hC, ↓cb_8 hC, ↓cb_9 hC, ↓cb_24 hC, ↓cb_16 hC, ↓cb29_0 hC, ↓cb29_1 hC, ↓sb_0 hS, ↓sb1_0 hS, ↓sb1_1 hS, ↓sb1_2 hS, ↓sb_1 hS, ↓sb_2 hS, ↓sb_3 hS, ↓sb_4 hS, ↓sb_5 hS, ↓sb_6 hS, ↓sb_7 hS, hC, hS, fX0_table, ↓bn_e, ↓bb_0 hB, ↓bb_1 hB, ↓bb_2 hB, hB, ↓bn_of e1]
  exact e5
theorem m_foundAt (M : ME nf m D T N R tx g I) (ho : rOK g n k H) (hH : H ≤ 1000) (hnf : 70 < nf) (hx : arN 64 (I (m + 22)) Fd) (hF : ∀ j, j < 64 → Fd j ≤ 100000000) {f ch : Nat} (hf : f < 8) (hch : ch < k) :
    ∃ I' L', fX5_foundAt nf T N I L R m (ii f) (ii ch) = some (ii (fdN 100000000 (fnd (fdP Fd D n k g f ch) 61 0)), I', L') ∧ mT m I I' L L' ∧ I' (m + 22) = I (m + 22) := by
  obtain ⟨h1, h2, hM, hh⟩ := M
  have hk := ho.1.2.2.2
  have e1 := m_keepAll (I := I) (q := 16) hM hnf (by omega)
  rw [hh.1] at e1
  have hhK : mH m g tx (sI I (m + 5) (kpA g (I (m + 5)) 16)) := mH_row hh (fun _ _ => rfl) (by rw [sI_ne (by omega)]; exact hh.1) (by rw [sI_ne (by omega)])
  have k1 : ∀ a, a ≠ m → a ≠ m + 5 → a ≠ m + 22 → sI I (m + 5) (kpA g (I (m + 5)) 16) a = I a := fun a a1 a2 _ => by rw [sI_ne a2]
  have k2 : ∀ j, j ≠ 0 → sI I (m + 5) (kpA g (I (m + 5)) 16) m j = I m j := fun j j0 => by rw [sI_ne (by omega)]
  have k3 : ∀ j, j < 336 → sI I (m + 5) (kpA g (I (m + 5)) 16) (m + 5) j = I (m + 5) j := fun j hj => by
    rw [sI_at]; unfold kpA; rw [if_neg (by omega)]
  have k4 : sI I (m + 5) (kpA g (I (m + 5)) 16) (m + 5) = kpA g (I (m + 5)) 16 := sI_at _ _ _
  have k5 : sI I (m + 5) (kpA g (I (m + 5)) 16) (m + 22) = I (m + 22) := sI_ne (by omega)
  generalize hJ : sI I (m + 5) (kpA g (I (m + 5)) 16) = J at e1 hhK k1 k2 k3 k4 k5
  have fin : ∀ (i : Nat) (I2 : xI) (L2 : xL), i ≤ 61 → I2 (m + 2) = pasN D n k i g → mSp m J I2 L L2 → fX5_foundAt_b43 nf T N I2 L2 R m (ii i) = some (ii (fdN 100000000 i), sI I2 (m + 2) g, L2) := by
    intro i I2 L2 hi g2 t2
    obtain ⟨o1, o2⟩ := pasN_ok (D := D) ho i (by omega)
    have ep := m_fin hM hnf k4 t2 (fun j hj => by rw [g2]; exact o2 j (by omega) (by omega))
    unfold fX5_foundAt_b43 fdN
    by_cases q : i ≤ 60
    · simp (disch := omega) only [↓nm_v, ↓tg, ↓rA, ↓chk_if, ↓reduceIte, inb_ii, ii_nat, ii_add, and_self, bi_zb, if_bi, if_bi1, ii_leT, ii_leF, ii_ltT, ii_ltF, ii_eqF, ii_m1F, ↓mb_2 hM, ↓mb_3 hM, ↓mb_4 hM, ↓mb_5 hM, ↓mb_6 hM, ↓mb_7 hM, ↓mb_9 hM, ↓mb_10 hM, ↓mb_12 hM, ↓mb_22 hM, ↓mb_24 hM, ↓mb_25 hM, ↓mb_27 hM, ↓mb_28 hM, ↓mb_31 hM, ↓mb_32 hM, ↓mb_33 hM, ↓mb_35 hM, ↓mb_36 hM, ↓mb_37 hM, ↓mb_41 hM, ↓mb_42 hM, ↓mb_43 hM, ↓mb_44 hM, ↓mb_45 hM, ↓mb_46 hM, ↓mb_47 hM, ↓mb_48 hM, ↓mb_49 hM, ↓mb_55 hM, hM, ↓bn_of ep, q]
    · simp (disch := omega) only [↓nm_v, ↓tg, ↓rA, ↓chk_if, ↓reduceIte, inb_ii, ii_nat, ii_add, and_self, bi_zb, if_bi, if_bi1, ii_leT, ii_leF, ii_ltT, ii_ltF, ii_eqF, ii_m1F, ↓mb_2 hM, ↓mb_3 hM, ↓mb_4 hM, ↓mb_5 hM, ↓mb_6 hM, ↓mb_7 hM, ↓mb_9 hM, ↓mb_10 hM, ↓mb_12 hM, ↓mb_22 hM, ↓mb_24 hM, ↓mb_25 hM, ↓mb_27 hM, ↓mb_28 hM, ↓mb_31 hM, ↓mb_32 hM, ↓mb_33 hM, ↓mb_35 hM, ↓mb_36 hM, ↓mb_37 hM, ↓mb_41 hM, ↓mb_42 hM, ↓mb_43 hM, ↓mb_44 hM, ↓mb_45 hM, ↓mb_46 hM, ↓mb_47 hM, ↓mb_48 hM, ↓mb_49 hM, ↓mb_55 hM, hM, ↓bn_of ep, q]
  have loop : ∀ (d i q : Nat) (I2 : xI) (L2 : xL), i + d = 61 → d < q → I2 (m + 2) = pasN D n k i g → mSp m J I2 L L2 →
      ∃ I3 L3, fX5_foundAt_b8 nf T N R q I2 L2 m (ii f) (ii ch) (ii i) = some (ii (fdN 100000000 (fnd (fdP Fd D n k g f ch) d i)), sI I3 (m + 2) g, L3) ∧ mSp m J I3 L L3 := by
    intro d
    induction d with
    | zero =>
      intro i q I2 L2 hi hq g2 t2
      obtain ⟨q, rfl⟩ : ∃ q', q = q' + 1 := ⟨q - 1, by omega⟩
      have : i = 61 := by omega
      subst this
      refine ⟨I2, L2, ?_, t2⟩
      rw [fX5_foundAt_b8]
      simp (disch := omega) only [↓nm_v, ↓tg, ↓rA, ↓chk_if, ↓reduceIte, inb_ii, ii_nat, ii_add, and_self, bi_zb, if_bi, if_bi1, ii_leT, ii_leF, ii_ltT, ii_ltF, ii_eqF, ii_m1F, ↓mb_2 hM, ↓mb_3 hM, ↓mb_4 hM, ↓mb_5 hM, ↓mb_6 hM, ↓mb_7 hM, ↓mb_9 hM, ↓mb_10 hM, ↓mb_12 hM, ↓mb_22 hM, ↓mb_24 hM, ↓mb_25 hM, ↓mb_27 hM, ↓mb_28 hM, ↓mb_31 hM, ↓mb_32 hM, ↓mb_33 hM, ↓mb_35 hM, ↓mb_36 hM, ↓mb_37 hM, ↓mb_41 hM, ↓mb_42 hM, ↓mb_43 hM, ↓mb_44 hM, ↓mb_45 hM, ↓mb_46 hM, ↓mb_47 hM, ↓mb_48 hM, ↓mb_49 hM, ↓mb_55 hM, hM]
      exact fin 61 I2 L2 (by omega) g2 t2
    | succ d ih =>
      intro i q I2 L2 hi hq g2 t2
      obtain ⟨q, rfl⟩ : ∃ q', q = q' + 1 := ⟨q - 1, by omega⟩
      obtain ⟨o1, o2⟩ := pasN_ok (D := D) ho i (by omega)
      have oa := o1.2.2.2.2.2.2.2.2.2.2.2.1 ch hch
      have ea := oa.1
      have hx2 : arN 64 (I2 (m + 22)) Fd := by rw [t2.1 (m + 22) (by omega) (by omega) (by omega), k5]; exact hx
      have ef := m_farOf hM hx2 hF hf oa.2
      have hb := hF (8 * f + na (pasN D n k i g) (18 + ch)) (by omega)
      rw [fX5_foundAt_b8]
      unfold fnd
      by_cases p : fdP Fd D n k g f ch i = true
      · have p' : Fd (8 * f + na (pasN D n k i g) (18 + ch)) ≤ i := of_decide_eq_true p
        refine ⟨I2, L2, ?_, t2⟩
        rw [if_pos p, ← fin i I2 L2 (by omega) g2 t2]
        simp (disch := omega) only [↓nm_v, ↓tg, ↓rA, ↓chk_if, ↓reduceIte, inb_ii, ii_nat, ii_add, and_self, bi_zb, if_bi, if_bi1, ii_leT, ii_leF, ii_ltT, ii_ltF, ii_eqF, ii_m1F, ↓mb_2 hM, ↓mb_3 hM, ↓mb_4 hM, ↓mb_5 hM, ↓mb_6 hM, ↓mb_7 hM, ↓mb_9 hM, ↓mb_10 hM, ↓mb_12 hM, ↓mb_22 hM, ↓mb_24 hM, ↓mb_25 hM, ↓mb_27 hM, ↓mb_28 hM, ↓mb_31 hM, ↓mb_32 hM, ↓mb_33 hM, ↓mb_35 hM, ↓mb_36 hM, ↓mb_37 hM, ↓mb_41 hM, ↓mb_42 hM, ↓mb_43 hM, ↓mb_44 hM, ↓mb_45 hM, ↓mb_46 hM, ↓mb_47 hM, ↓mb_48 hM, ↓mb_49 hM, ↓mb_55 hM, hM, g2, ea, ↓bn_of ef]
      · have p' : ¬ Fd (8 * f + na (pasN D n k i g) (18 + ch)) ≤ i := fun e => p (decide_eq_true e)
        have hh2 : mH m (pasN D n k i g) tx I2 := mH_row hhK (fun j hj => o2 j (by omega) (by omega)) g2 (t2.2.1 20 (by omega) (by omega))
        obtain ⟨I3, L3, e3, g3, t3⟩ := m_passIt (L := L2) h1 h2 hM hh2 o1 (by omega) hnf
        obtain ⟨I4, L4, e4, t4⟩ := ih (i + 1) q I3 L3 (by omega) (by omega) (by rw [pasN_s]; exact g3) (mSp_trans t2 t3)
        refine ⟨I4, L4, ?_, t4⟩
        rw [if_neg p, ← e4]
        simp (disch := omega) only [↓nm_v, ↓tg, ↓rA, ↓chk_if, ↓reduceIte, inb_ii, ii_nat, ii_add, and_self, bi_zb, if_bi, if_bi1, ii_leT, ii_leF, ii_ltT, ii_ltF, ii_eqF, ii_m1F, ↓mb_2 hM, ↓mb_3 hM, ↓mb_4 hM, ↓mb_5 hM, ↓mb_6 hM, ↓mb_7 hM, ↓mb_9 hM, ↓mb_10 hM, ↓mb_12 hM, ↓mb_22 hM, ↓mb_24 hM, ↓mb_25 hM, ↓mb_27 hM, ↓mb_28 hM, ↓mb_31 hM, ↓mb_32 hM, ↓mb_33 hM, ↓mb_35 hM, ↓mb_36 hM, ↓mb_37 hM, ↓mb_41 hM, ↓mb_42 hM, ↓mb_43 hM, ↓mb_44 hM, ↓mb_45 hM, ↓mb_46 hM, ↓mb_47 hM, ↓mb_48 hM, ↓mb_49 hM, ↓mb_55 hM, hM, g2, ea, ↓bn_of ef, ↓b3_of e3]
  obtain ⟨I4, L4, e4, t4⟩ := loop 61 0 nf J L (by omega) (by omega) hhK.1 (mSp_refl _ _ _)
  refine ⟨sI I4 (m + 2) g, L4, ?_, mT_of hh.1 k1 k2 k3 t4, ?_⟩
  · unfold fX5_foundAt
    simp (disch := omega) only [↓nm_v, ↓tg, ↓rA, ↓chk_if, ↓reduceIte, inb_ii, ii_nat, ii_add, and_self, bi_zb, if_bi, if_bi1, ii_leT, ii_leF, ii_ltT, ii_ltF, ii_eqF, ii_m1F, ↓mb_2 hM, ↓mb_3 hM, ↓mb_4 hM, ↓mb_5 hM, ↓mb_6 hM, ↓mb_7 hM, ↓mb_9 hM, ↓mb_10 hM, ↓mb_12 hM, ↓mb_22 hM, ↓mb_24 hM, ↓mb_25 hM, ↓mb_27 hM, ↓mb_28 hM, ↓mb_31 hM, ↓mb_32 hM, ↓mb_33 hM, ↓mb_35 hM, ↓mb_36 hM, ↓mb_37 hM, ↓mb_41 hM, ↓mb_42 hM, ↓mb_43 hM, ↓mb_44 hM, ↓mb_45 hM, ↓mb_46 hM, ↓mb_47 hM, ↓mb_48 hM, ↓mb_49 hM, ↓mb_55 hM, hM, ↓bn_of e1]
    exact e4
  · rw [sI_ne (by omega), t4.1 (m + 22) (by omega) (by omega) (by omega), k5]
/-- two squares tell alike -/
theorem fdP_two {Fe : Nat → Nat} (h : fw2 1000000 100000000 2304 Fd Fe) (ho : rOK g n k H) (hH : H ≤ 1000) {f ch : Nat} (hf : f < 8) (hch : ch < k) : fnd (fdP Fd D n k g f ch) 61 0 = fnd (fdP Fe D n k g f ch) 61 0 := by
  apply fnd_congr
  intro i _ hi
  obtain ⟨o1, o2⟩ := pasN_ok (D := D) ho i (by omega)
  have oa := o1.2.2.2.2.2.2.2.2.2.2.2.1 ch hch
  have h1 := h f (na (pasN D n k i g) (18 + ch)) hf oa.2
  unfold fdP
  by_cases q : Fd (8 * f + na (pasN D n k i g) (18 + ch)) ≤ i
  · rw [decide_eq_true q, decide_eq_true (by omega)]
  · rw [decide_eq_false q, decide_eq_false (by omega)]
theorem fnd_le (P : Nat → Bool) : ∀ (d l : Nat), fnd P d l ≤ l + d := by
  intro d
  induction d with
  | zero => intro l; exact Nat.le_refl _
  | succ d ih =>
    intro l
    unfold fnd
    split
    · omega
    · have := ih (l + 1)
      omega
end
