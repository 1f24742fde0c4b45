/-! PLAIN LAND, 30: again, found: both sides -/
section
variable {T N T0 N0 : xT} {R R0 : xR} {I I0 : xI} {L : xL} {c s t u m n k nf H : Nat} {D : Laws} {fz : Nat → Prop} {g g' tx : Nat → Int32}
def agP (D : Laws) (n k : Nat) (g : Nat → Int32) (ch i : Nat) : Bool := decide (pasN D n k i g (18 + ch) = g (18 + ch))
def agN (f : Nat) : Int32 := if f ≤ 60 then ii f else -1
def againA (D : Laws) (n k : Nat) (g : Nat → Int32) (x : Int32) : Int32 := if rg x 0 ((k : Int) - 1) = true then agN (fnd (agP D n k g x.toNatClampNeg) 60 1) else -1
theorem c_again (E : CE nf c s D fz T0 N0 I0 R0 T N R I) (hr : StR I s g) (ht : TbR I (s + 1) g) (ho : rOK g n k H) (hH : H ≤ 1000) (hnf : 70 < nf) (x : Int32) :
    ∃ I' w, fX0_again nf T N I L R c x = some (againA D n k g x, I', sL L (c + 31) w) ∧ tr c I I' := by
  obtain ⟨h1, h2, h3, h4, hC, hS, hB, h8⟩ := id E
  have hk := ho.1.2.2.2
  have hk9 : I s 9 = ii k := hr.2.1.trans ho.1.2.2.1
  unfold fX0_again againA
  cases q1 : rg x 0 ((k : Int) - 1) with
  | false =>
    refine ⟨I, L (c + 31), ?_, tr_refl _ _⟩
    rw [sL_id]
    simp (disch := omega) only [↓nm_v, ↓tg, ↓rA, ↓chk_if, ↓reduceIte, inb_ii, ii_nat, ii_add, and_self, bi_zb, if_bi, if_bi1, ii_leT, ii_leF, ii_ltT, ii_ltF, ii_eqF, ii_m1F, ↓cb_2 hC, ↓cb_1 hC, ↓cb_3 hC, ↓cb_4 hC, ↓cb_5 hC, ↓cb_6 hC, ↓cb_7 hC, ↓cb_10 hC, ↓cb_17 hC, ↓cb_18 hC, ↓cb_19 hC, ↓cb_20 hC, ↓cb_21 hC, ↓cb_22 hC, ↓cb_23 hC, ↓cb_8 hC, ↓cb_9 hC, ↓cb_24 hC, ↓cb_16 hC, ↓cb29_0 hC, ↓cb29_1 hC, ↓sb_0 hS, ↓sb1_0 hS, ↓sb1_1 hS, ↓sb1_2 hS, ↓sb_1 hS, ↓sb_2 hS, ↓sb_3 hS, ↓sb_4 hS, ↓sb_5 hS, ↓sb_6 hS, ↓sb_7 hS, hC, hS, ↓bn_of (c_isChild hC hS hk9 hk x), q1, Bool.false_eq_true]
  | true =>
    obtain ⟨ch, rfl, hch⟩ := rgk q1
    obtain ⟨I1, e1, g1, t1⟩ := c_take24 E ht
    have loop : ∀ (d i q : Nat) (I2 : xI) (w : Nat → Int64), 1 ≤ i → i + d = 61 → d < q → TbR I2 (c + 24) (pasN D n k (i - 1) g) → StR I2 s (pasN D n k (i - 1) g) → tr c I I2 →
        ∃ I' w', fX0_again_b23 nf T N R q I2 (sL L (c + 31) w) c (ii ch) (ii i) = some (agN (fnd (agP D n k g ch) d i), I', sL L (c + 31) w') ∧ tr c I I' := by
      intro d
      induction d with
      | zero =>
        intro i q I2 w hi1 hi hq g2 r2 t2
        obtain ⟨q, rfl⟩ : ∃ q', q = q' + 1 := ⟨q - 1, by omega⟩
        have : i = 61 := by omega
        subst this
        refine ⟨I2, w, ?_, t2⟩
        rw [fX0_again_b23]
        simp (disch := omega) only [↓nm_v, ↓tg, ↓rA, ↓chk_if, ↓reduceIte, inb_ii, ii_nat, ii_add, and_self, bi_zb, if_bi, if_bi1, ii_leT, ii_leF, ii_ltT, ii_ltF, ii_eqF, ii_m1F, ↓cb_2 hC, ↓cb_1 hC, ↓cb_3 hC, ↓cb_4 hC, ↓cb_5 hC, ↓cb_6 hC, ↓cb_7 hC, ↓cb_10 hC, ↓cb_17 hC, ↓cb_18 hC, ↓cb_19 hC, ↓cb_20 hC, ↓cb_21 hC, ↓cb_22 hC, ↓cb_23 hC, ↓cb_8 hC, ↓cb_9 hC, ↓cb_24 hC, ↓cb_16 hC, ↓cb29_0 hC, ↓cb29_1 hC, ↓sb_0 hS, ↓sb1_0 hS, ↓sb1_1 hS, ↓sb1_2 hS, ↓sb_1 hS, ↓sb_2 hS, ↓sb_3 hS, ↓sb_4 hS, ↓sb_5 hS, ↓sb_6 hS, ↓sb_7 hS, hC, hS]
        rfl
      | succ d ih =>
        intro i q I2 w hi1 hi hq g2 r2 t2
        obtain ⟨q, rfl⟩ : ∃ q', q = q' + 1 := ⟨q - 1, by omega⟩
        obtain ⟨o1, o2⟩ := pasN_ok (D := D) ho (i - 1) (by omega)
        obtain ⟨I3, w3, e3, g3, r3, t3⟩ := c_try1 (L := sL L (c + 31) w) (CE_tr E t2) r2 g2 o1 (by omega) hnf
        rw [sL_sL] at e3
        rw [← pasN_s, show i - 1 + 1 = i by omega] at g3 r3
        have t4 := tr_trans t2 t3
        have ea := g3.2.1 ch (by omega)
        have eb := (TbR_tr h4 ht t4).2.1 ch (by omega)
        have eb : I3 (s + 2) ch = g (18 + ch) := eb
        rw [fX0_again_b23]
        unfold fnd
        by_cases p : agP D n k g ch i = true
        · have p' : pasN D n k i g (18 + ch) = g (18 + ch) := of_decide_eq_true p
          rw [p'] at ea
          refine ⟨I3, w3, ?_, t4⟩
          rw [if_pos p]
          unfold agN
          simp (disch := omega) only [↓nm_v, ↓tg, ↓rA, ↓chk_if, ↓reduceIte, inb_ii, ii_nat, ii_add, and_self, bi_zb, if_bi, if_bi1, ii_leT, ii_leF, ii_ltT, ii_ltF, ii_eqF, ii_m1F, ↓cb_2 hC, ↓cb_1 hC, ↓cb_3 hC, ↓cb_4 hC, ↓cb_5 hC, ↓cb_6 hC, ↓cb_7 hC, ↓cb_10 hC, ↓cb_17 hC, ↓cb_18 hC, ↓cb_19 hC, ↓cb_20 hC, ↓cb_21 hC, ↓cb_22 hC, ↓cb_23 hC, ↓cb_8 hC, ↓cb_9 hC, ↓cb_24 hC, ↓cb_16 hC, ↓cb29_0 hC, ↓cb29_1 hC, ↓sb_0 hS, ↓sb1_0 hS, ↓sb1_1 hS, ↓sb1_2 hS, ↓sb_1 hS, ↓sb_2 hS, ↓sb_3 hS, ↓sb_4 hS, ↓sb_5 hS, ↓sb_6 hS, ↓sb_7 hS, hC, hS, fX0_table, ↓bn_e, ↓bb_0 hB, ↓bb_1 hB, ↓bb_2 hB, hB, ↓b3_of e3, ea, eb]
          rw [if_pos (show i ≤ 60 by omega)]
        · have p' : ¬ pasN D n k i g (18 + ch) = g (18 + ch) := fun e => p (decide_eq_true e)
          obtain ⟨I5, w5, e5, t5⟩ := ih (i + 1) q I3 w3 (by omega) (by omega) (by omega) (by rw [show i + 1 - 1 = i by omega]; exact g3) (by rw [show i + 1 - 1 = i by omega]; exact r3) t4
          refine ⟨I5, w5, ?_, t5⟩
          rw [if_neg p, ← e5]
          simp (disch := omega) only [↓nm_v, ↓tg, ↓rA, ↓chk_if, ↓reduceIte, inb_ii, ii_nat, ii_add, and_self, bi_zb, if_bi, if_bi1, ii_leT, ii_leF, ii_ltT, ii_ltF, ii_eqF, ii_m1F, ↓cb_2 hC, ↓cb_1 hC, ↓cb_3 hC, ↓cb_4 hC, ↓cb_5 hC, ↓cb_6 hC, ↓cb_7 hC, ↓cb_10 hC, ↓cb_17 hC, ↓cb_18 hC, ↓cb_19 hC, ↓cb_20 hC, ↓cb_21 hC, ↓cb_22 hC, ↓cb_23 hC, ↓cb_8 hC, ↓cb_9 hC, ↓cb_24 hC, ↓cb_16 hC, ↓cb29_0 hC, ↓cb29_1 hC, ↓sb_0 hS, ↓sb1_0 hS, ↓sb1_1 hS, ↓sb1_2 hS, ↓sb_1 hS, ↓sb_2 hS, ↓sb_3 hS, ↓sb_4 hS, ↓sb_5 hS, ↓sb_6 hS, ↓sb_7 hS, hC, hS, fX0_table, ↓bn_e, ↓bb_0 hB, ↓bb_1 hB, ↓bb_2 hB, hB, ↓b3_of e3, ea, eb, p']
    obtain ⟨I5, w5, e5, t5⟩ := loop 60 1 nf I1 (L (c + 31)) (by omega) (by omega) (by omega) g1 (StR_tr h4 hr t1) t1
    rw [sL_id] at e5
    refine ⟨I5, w5, ?_, t5⟩
    simp (disch := omega) only [↓nm_v, ↓tg, ↓rA, ↓chk_if, ↓reduceIte, inb_ii, ii_nat, ii_add, and_self, bi_zb, if_bi, if_bi1, ii_leT, ii_leF, ii_ltT, ii_ltF, ii_eqF, ii_m1F, ↓cb_2 hC, ↓cb_1 hC, ↓cb_3 hC, ↓cb_4 hC, ↓cb_5 hC, ↓cb_6 hC, ↓cb_7 hC, ↓cb_10 hC, ↓cb_17 hC, ↓cb_18 hC, ↓cb_19 hC, ↓cb_20 hC, ↓cb_21 hC, ↓cb_22 hC, ↓cb_23 hC, ↓cb_8 hC, ↓cb_9 hC, ↓cb_24 hC, ↓cb_16 hC, ↓cb29_0 hC, ↓cb29_1 hC, ↓sb_0 hS, ↓sb1_0 hS, ↓sb1_1 hS, ↓sb1_2 hS, ↓sb_1 hS, ↓sb_2 hS, ↓sb_3 hS, ↓sb_4 hS, ↓sb_5 hS, ↓sb_6 hS, ↓sb_7 hS, hC, hS, fX0_table, ↓bn_e, ↓bb_0 hB, ↓bb_1 hB, ↓bb_2 hB, hB, ↓bn_of (c_isChild hC hS hk9 hk (ii ch)), q1, ↓bn_of e1]
    exact e5
/-- the row put back behind hours tried -/
theorem m_fin (hM : MSh m T N R) (hnf : 70 < nf) {I1 I2 : xI} {L2 : xL} {u : Nat → Int32} (hI1 : I1 (m + 5) = kpA g u 16) (t2 : mSp m I1 I2 L L2) (hs : ∀ j, (j < 5 ∨ 26 ≤ j) → I2 (m + 2) j = g j) : fX5_putBack nf T N I2 R m (ii 16) = some (sI I2 (m + 2) g) := by
  have ep := m_putBack (I := I2) (q := 16) hM hnf (by omega)
  rw [t2.1 (m + 5) (by omega) (by omega) (by omega), hI1, pb_kp _ _ _ hs] at ep
  exact ep
theorem mT_of {I1 I2 : xI} {L2 : xL} (hg : I (m + 2) = g) (h1 : ∀ a, a ≠ m → a ≠ m + 5 → a ≠ m + 22 → I1 a = I a) (h2 : ∀ j, j ≠ 0 → I1 m j = I m j) (h3 : ∀ j, j < 336 → I1 (m + 5) j = I (m + 5) j) (t2 : mSp m I1 I2 L L2) : mT m I (sI I2 (m + 2) g) L L2 := by
  refine ⟨?_, ?_, ?_, t2.2.2.1, t2.2.2.2⟩
  · intro a a1 a2 a3 a4
    by_cases q : a = m + 2
    · rw [q, sI_at]; exact hg.symm
    · rw [sI_ne q, t2.1 a a1 q a3, h1 a a1 a2 a4]
  · intro j j0 j1 j2
    rw [sI_ne (by omega), t2.2.1 j j1 j2, h2 j j0]
  · intro j hj
    rw [sI_ne (by omega), t2.1 (m + 5) (by omega) (by omega) (by omega), h3 j hj]
theorem m_again (M : ME nf m D T N R tx g I) (ho : rOK g n k H) (hH : H ≤ 1000) (hnf : 70 < nf) (x : Int32) :
    ∃ I' L', fX5_again nf T N I L R m x = some (againA D n k g x, I', L') ∧ mT m I I' L L' := by
  obtain ⟨h1, h2, hM, hh⟩ := M
  have hk := ho.1.2.2.2
  have hh0 := mH_u hh (ii 0)
  have hk1 : uI I m 0 (ii 0) (m + 2) 1 = ii k := by rw [hh0.1]; exact ho.1.2.2.1
  have t0 : mT m I (uI I m 0 (ii 0)) L L := ⟨fun a a1 _ _ _ => uI_ne a1, fun j j0 _ _ => uI_mis j0, fun j _ => by rw [uI_ne (by omega)], fun _ _ _ _ => rfl, fun _ _ _ => rfl⟩
  unfold fX5_again againA
  cases q1 : rg x 0 ((k : Int) - 1) with
  | false =>
    refine ⟨uI I m 0 (ii 0), L, ?_, t0⟩
    simp (disch := omega) only [↓nm_v, ↓tg, ↓rA, ↓chk_if, ↓reduceIte, inb_ii, ii_nat, ii_add, and_self, bi_zb, if_bi, if_bi1, ii_leT, ii_leF, ii_ltT, ii_ltF, ii_eqF, ii_m1F, ↓mb_2 hM, ↓mb_3 hM, ↓mb_4 hM, ↓mb_5 hM, ↓mb_6 hM, ↓mb_7 hM, ↓mb_9 hM, ↓mb_10 hM, ↓mb_12 hM, ↓mb_22 hM, ↓mb_24 hM, ↓mb_25 hM, ↓mb_27 hM, ↓mb_28 hM, ↓mb_31 hM, ↓mb_32 hM, ↓mb_33 hM, ↓mb_35 hM, ↓mb_36 hM, ↓mb_37 hM, ↓mb_41 hM, ↓mb_42 hM, ↓mb_43 hM, ↓mb_44 hM, ↓mb_45 hM, ↓mb_46 hM, ↓mb_47 hM, ↓mb_48 hM, ↓mb_49 hM, ↓mb_55 hM, hM, ↓bn_of (m_isChild hM hk1 hk x), q1, Bool.false_eq_true]
  | true =>
    obtain ⟨ch, rfl, hch⟩ := rgk q1
    have e1 := m_keepAll (I := uI I m 0 (ii 0)) (q := 16) hM hnf (by omega)
    rw [hh0.1] at e1
    have hhK : mH m g tx (sI (uI I m 0 (ii 0)) (m + 5) (kpA g (uI I m 0 (ii 0) (m + 5)) 16)) := mH_row hh0 (fun _ _ => rfl) (by rw [sI_ne (by omega)]; exact hh0.1) (by rw [sI_ne (by omega)])
    have k1 : ∀ a, a ≠ m → a ≠ m + 5 → a ≠ m + 22 → sI (uI I m 0 (ii 0)) (m + 5) (kpA g (uI I m 0 (ii 0) (m + 5)) 16) a = I a := fun a a1 a2 _ => by rw [sI_ne a2, uI_ne a1]
    have k2 : ∀ j, j ≠ 0 → sI (uI I m 0 (ii 0)) (m + 5) (kpA g (uI I m 0 (ii 0) (m + 5)) 16) m j = I m j := fun j j0 => by rw [sI_ne (by omega), uI_mis j0]
    have k3 : ∀ j, j < 336 → sI (uI I m 0 (ii 0)) (m + 5) (kpA g (uI I m 0 (ii 0) (m + 5)) 16) (m + 5) j = I (m + 5) j := fun j hj => by
      rw [sI_at]; unfold kpA; rw [if_neg (by omega), uI_ne (by omega)]
    have k4 : sI (uI I m 0 (ii 0)) (m + 5) (kpA g (uI I m 0 (ii 0) (m + 5)) 16) (m + 5) = kpA g (uI I m 0 (ii 0) (m + 5)) 16 := sI_at _ _ _
    generalize hJ : sI (uI I m 0 (ii 0)) (m + 5) (kpA g (uI I m 0 (ii 0) (m + 5)) 16) = J at e1 hhK k1 k2 k3 k4
    have step : ∀ (i : Nat) (I2 : xI) (L2 : xL), i ≤ 61 → I2 (m + 2) = pasN D n k i g → mSp m J I2 L L2 → ∃ I3 L3, fX5_passIt nf T N I2 L2 R m = some (ii (goA D (pasN D n k i g) n k).1, I3, L3) ∧ I3 (m + 2) = pasN D n k (i + 1) g ∧ mSp m J I3 L L3 := by
      intro i I2 L2 hi g2 t2
      obtain ⟨o1, o2⟩ := pasN_ok (D := D) ho i (by omega)
      have hh2 : mH m (pasN D n k i g) tx I2 := mH_row hhK (fun j hj => o2 j (by omega) (by omega)) g2 (t2.2.1 20 (by omega) (by omega))
      obtain ⟨I3, L3, e3, g3, t3⟩ := m_passIt (L := L2) h1 h2 hM hh2 o1 (by omega) hnf
      exact ⟨I3, L3, e3, by rw [pasN_s]; exact g3, mSp_trans t2 t3⟩
    have fin : ∀ (i : Nat) (I2 : xI) (L2 : xL), i ≤ 61 → I2 (m + 2) = pasN D n k i g → mSp m J I2 L L2 → fX5_again_b68 nf T N I2 L2 R m (ii i) = some (agN i, sI I2 (m + 2) g, L2) := by
      intro i I2 L2 hi g2 t2
      obtain ⟨o1, o2⟩ := pasN_ok (D := D) ho i (by omega)
      have ep := m_fin hM hnf k4 t2 (fun j hj => by rw [g2]; exact o2 j (by omega) (by omega))
      unfold fX5_again_b68 agN
      by_cases q : i ≤ 60
      · simp (disch := omega) only [↓nm_v, ↓tg, ↓rA, ↓chk_if, ↓reduceIte, inb_ii, ii_nat, ii_add, and_self, bi_zb, if_bi, if_bi1, ii_leT, ii_leF, ii_ltT, ii_ltF, ii_eqF, ii_m1F, ↓mb_2 hM, ↓mb_3 hM, ↓mb_4 hM, ↓mb_5 hM, ↓mb_6 hM, ↓mb_7 hM, ↓mb_9 hM, ↓mb_10 hM, ↓mb_12 hM, ↓mb_22 hM, ↓mb_24 hM, ↓mb_25 hM, ↓mb_27 hM, ↓mb_28 hM, ↓mb_31 hM, ↓mb_32 hM, ↓mb_33 hM, ↓mb_35 hM, ↓mb_36 hM, ↓mb_37 hM, ↓mb_41 hM, ↓mb_42 hM, ↓mb_43 hM, ↓mb_44 hM, ↓mb_45 hM, ↓mb_46 hM, ↓mb_47 hM, ↓mb_48 hM, ↓mb_49 hM, ↓mb_55 hM, hM, ↓bn_of ep, q]
      · simp (disch := omega) only [↓nm_v, ↓tg, ↓rA, ↓chk_if, ↓reduceIte, inb_ii, ii_nat, ii_add, and_self, bi_zb, if_bi, if_bi1, ii_leT, ii_leF, ii_ltT, ii_ltF, ii_eqF, ii_m1F, ↓mb_2 hM, ↓mb_3 hM, ↓mb_4 hM, ↓mb_5 hM, ↓mb_6 hM, ↓mb_7 hM, ↓mb_9 hM, ↓mb_10 hM, ↓mb_12 hM, ↓mb_22 hM, ↓mb_24 hM, ↓mb_25 hM, ↓mb_27 hM, ↓mb_28 hM, ↓mb_31 hM, ↓mb_32 hM, ↓mb_33 hM, ↓mb_35 hM, ↓mb_36 hM, ↓mb_37 hM, ↓mb_41 hM, ↓mb_42 hM, ↓mb_43 hM, ↓mb_44 hM, ↓mb_45 hM, ↓mb_46 hM, ↓mb_47 hM, ↓mb_48 hM, ↓mb_49 hM, ↓mb_55 hM, hM, ↓bn_of ep, q]
    have loop : ∀ (d i q : Nat) (I2 : xI) (L2 : xL), i + d = 61 → d < q → I2 (m + 2) = pasN D n k i g → mSp m J I2 L L2 →
        ∃ I3 L3, fX5_again_b38 nf T N R q I2 L2 m (ii ch) (g (18 + ch)) (ii i) = some (agN (fnd (agP D n k g ch) d i), sI I3 (m + 2) g, L3) ∧ mSp m J I3 L L3 := by
      intro d
      induction d with
      | zero =>
        intro i q I2 L2 hi hq g2 t2
        obtain ⟨q, rfl⟩ : ∃ q', q = q' + 1 := ⟨q - 1, by omega⟩
        have : i = 61 := by omega
        subst this
        refine ⟨I2, L2, ?_, t2⟩
        rw [fX5_again_b38]
        simp (disch := omega) only [↓nm_v, ↓tg, ↓rA, ↓chk_if, ↓reduceIte, inb_ii, ii_nat, ii_add, and_self, bi_zb, if_bi, if_bi1, ii_leT, ii_leF, ii_ltT, ii_ltF, ii_eqF, ii_m1F, ↓mb_2 hM, ↓mb_3 hM, ↓mb_4 hM, ↓mb_5 hM, ↓mb_6 hM, ↓mb_7 hM, ↓mb_9 hM, ↓mb_10 hM, ↓mb_12 hM, ↓mb_22 hM, ↓mb_24 hM, ↓mb_25 hM, ↓mb_27 hM, ↓mb_28 hM, ↓mb_31 hM, ↓mb_32 hM, ↓mb_33 hM, ↓mb_35 hM, ↓mb_36 hM, ↓mb_37 hM, ↓mb_41 hM, ↓mb_42 hM, ↓mb_43 hM, ↓mb_44 hM, ↓mb_45 hM, ↓mb_46 hM, ↓mb_47 hM, ↓mb_48 hM, ↓mb_49 hM, ↓mb_55 hM, hM]
        exact fin 61 I2 L2 (by omega) g2 t2
      | succ d ih =>
        intro i q I2 L2 hi hq g2 t2
        obtain ⟨q, rfl⟩ : ∃ q', q = q' + 1 := ⟨q - 1, by omega⟩
        rw [fX5_again_b38]
        unfold fnd
        by_cases p : agP D n k g ch i = true
        · have p' : pasN D n k i g (18 + ch) = g (18 + ch) := of_decide_eq_true p
          refine ⟨I2, L2, ?_, t2⟩
          rw [if_pos p, ← fin i I2 L2 (by omega) g2 t2]
          simp (disch := omega) only [↓nm_v, ↓tg, ↓rA, ↓chk_if, ↓reduceIte, inb_ii, ii_nat, ii_add, and_self, bi_zb, if_bi, if_bi1, ii_leT, ii_leF, ii_ltT, ii_ltF, ii_eqF, ii_m1F, ↓mb_2 hM, ↓mb_3 hM, ↓mb_4 hM, ↓mb_5 hM, ↓mb_6 hM, ↓mb_7 hM, ↓mb_9 hM, ↓mb_10 hM, ↓mb_12 hM, ↓mb_22 hM, ↓mb_24 hM, ↓mb_25 hM, ↓mb_27 hM, ↓mb_28 hM, ↓mb_31 hM, ↓mb_32 hM, ↓mb_33 hM, ↓mb_35 hM, ↓mb_36 hM, ↓mb_37 hM, ↓mb_41 hM, ↓mb_42 hM, ↓mb_43 hM, ↓mb_44 hM, ↓mb_45 hM, ↓mb_46 hM, ↓mb_47 hM, ↓mb_48 hM, ↓mb_49 hM, ↓mb_55 hM, hM, g2, p']
        · have p' : ¬ pasN D n k i g (18 + ch) = g (18 + ch) := fun e => p (decide_eq_true e)
          obtain ⟨I3, L3, e3, g3, t3⟩ := step i I2 L2 (by omega) g2 t2
          obtain ⟨I4, L4, e4, t4⟩ := ih (i + 1) q I3 L3 (by omega) (by omega) g3 t3
          refine ⟨I4, L4, ?_, t4⟩
          rw [if_neg p, ← e4]
          simp (disch := omega) only [↓nm_v, ↓tg, ↓rA, ↓chk_if, ↓reduceIte, inb_ii, ii_nat, ii_add, and_self, bi_zb, if_bi, if_bi1, ii_leT, ii_leF, ii_ltT, ii_ltF, ii_eqF, ii_m1F, ↓mb_2 hM, ↓mb_3 hM, ↓mb_4 hM, ↓mb_5 hM, ↓mb_6 hM, ↓mb_7 hM, ↓mb_9 hM, ↓mb_10 hM, ↓mb_12 hM, ↓mb_22 hM, ↓mb_24 hM, ↓mb_25 hM, ↓mb_27 hM, ↓mb_28 hM, ↓mb_31 hM, ↓mb_32 hM, ↓mb_33 hM, ↓mb_35 hM, ↓mb_36 hM, ↓mb_37 hM, ↓mb_41 hM, ↓mb_42 hM, ↓mb_43 hM, ↓mb_44 hM, ↓mb_45 hM, ↓mb_46 hM, ↓mb_47 hM, ↓mb_48 hM, ↓mb_49 hM, ↓mb_55 hM, hM, g2, p', ↓b3_of e3]
    obtain ⟨I3, L3, e3, g3, t3⟩ := step 0 J L (by omega) hhK.1 (mSp_refl _ _ _)
    obtain ⟨I4, L4, e4, t4⟩ := loop 60 1 nf I3 L3 (by omega) (by omega) g3 t3
    refine ⟨sI I4 (m + 2) g, L4, ?_, mT_of hh.1 k1 k2 k3 t4⟩
    have hrow := hh0.1
    simp (disch := omega) only [↓nm_v, ↓tg, ↓rA, ↓chk_if, ↓reduceIte, inb_ii, ii_nat, ii_add, and_self, bi_zb, if_bi, if_bi1, ii_leT, ii_leF, ii_ltT, ii_ltF, ii_eqF, ii_m1F, ↓mb_2 hM, ↓mb_3 hM, ↓mb_4 hM, ↓mb_5 hM, ↓mb_6 hM, ↓mb_7 hM, ↓mb_9 hM, ↓mb_10 hM, ↓mb_12 hM, ↓mb_22 hM, ↓mb_24 hM, ↓mb_25 hM, ↓mb_27 hM, ↓mb_28 hM, ↓mb_31 hM, ↓mb_32 hM, ↓mb_33 hM, ↓mb_35 hM, ↓mb_36 hM, ↓mb_37 hM, ↓mb_41 hM, ↓mb_42 hM, ↓mb_43 hM, ↓mb_44 hM, ↓mb_45 hM, ↓mb_46 hM, ↓mb_47 hM, ↓mb_48 hM, ↓mb_49 hM, ↓mb_55 hM, hM, ↓bn_of (m_isChild hM hk1 hk (ii ch)), q1, hrow, ↓bn_of e1, ↓b3_of e3]
    exact e4
end
