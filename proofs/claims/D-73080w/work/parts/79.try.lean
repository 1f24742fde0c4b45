/-! PLAIN LAND, 29: hours tried: where, both sides -/
/-- all of the component's world that is not the row -/
def CE (nf c s : Nat) (D : Laws) (fz : Nat → Prop) (T0 N0 : xT) (I0 : xI) (R0 : xR) (T N : xT) (R : xR) (I : xI) : Prop :=
  CTold nf c s D fz T0 N0 I0 R0 ∧ (∀ a, fz a → T a = T0 a ∧ N a = N0 a ∧ I a = I0 a ∧ R a = R0 a) ∧ (∀ a, fz a → a = c + 13 ∨ a = c + 14 ∨ c + 202 ≤ a) ∧ s = c + 2 ∧ CSh c s T N R ∧ StSh s T N R ∧ TbSh (c + 24) T N R ∧ TbSh (s + 1) T N R
/-- only the tried table has changed, and what is left behind -/
def tr (c : Nat) (I I' : xI) : Prop := ∀ a, (a < c + 24 ∨ c + 27 < a) → a ≠ c + 32 → a ≠ c + 33 → I' a = I a
section
variable {T N T0 N0 : xT} {R R0 : xR} {I I0 : xI} {L : xL} {c s t u m n k nf H : Nat} {D : Laws} {fz : Nat → Prop} {g g' tx : Nat → Int32}
theorem tr_refl (c : Nat) (I : xI) : tr c I I := fun _ _ _ _ => rfl
theorem tr_trans {I1 I2 : xI} (h1 : tr c I I1) (h2 : tr c I1 I2) : tr c I I2 := fun a x y z => (h2 a x y z).trans (h1 a x y z)
theorem CE_tr {I' : xI} (E : CE nf c s D fz T0 N0 I0 R0 T N R I) (h : tr c I I') : CE nf c s D fz T0 N0 I0 R0 T N R I' := by
  obtain ⟨h1, h2, h3, h4⟩ := E
  refine ⟨h1, fun a ha => ?_, h3, h4⟩
  have := h3 a ha
  rw [h a (by omega) (by omega) (by omega)]
  exact h2 a ha
theorem StR_tr {I' : xI} (hs : s = c + 2) (hr : StR I s g) (h : tr c I I') : StR I' s g := StR_I hr (fun a ha => h a (by omega) (by omega) (by omega))
theorem TbR_tr {I' : xI} (hs : s = c + 2) (ht : TbR I (s + 1) g) (h : tr c I I') : TbR I' (s + 1) g := TbR_I ht (by rw [h (s + 1) (by omega) (by omega) (by omega)]) (h _ (by omega) (by omega) (by omega)) (h _ (by omega) (by omega) (by omega)) (h _ (by omega) (by omega) (by omega))
theorem c_try1 (E : CE nf c s D fz T0 N0 I0 R0 T N R I) (hr : StR I s g) (ht : TbR I (c + 24) g) (ho : rOK g n k H) (hH : H ≤ 2000) (hnf : 70 < nf) :
    ∃ I' w, fX0_passes nf T N I L R c (c + 24) = some (ii (goA D g n k).1, I', sL L (c + 31) w) ∧ TbR I' (c + 24) (passG D n k g) ∧ StR I' s (passG D n k g) ∧ tr c I I' := by
  obtain ⟨h1, h2, h3, h4, h5, h6, h7, h8⟩ := E
  obtain ⟨I', w, e, g1, g2, g3⟩ := c_passes (L := L) h1 h2 h3 h4 (by omega) h5 h6 h7 hr ht ho hH hnf
  have htr : tr c I I' := fun a x y z => g2 a (by omega) (by omega) (by omega) y z
  refine ⟨I', w, e, g1, ?_, htr⟩
  exact StR_g (StR_tr h4 hr htr) (fun i hi => passG_st ho i (by omega) (by omega))
theorem c_take24 (E : CE nf c s D fz T0 N0 I0 R0 T N R I) (ht : TbR I (s + 1) g) : ∃ I', fX2_takes T N I R (c + 24) (s + 1) = some I' ∧ TbR I' (c + 24) g ∧ tr c I I' := by
  obtain ⟨h1, h2, h3, h4, h5, h6, h7, h8⟩ := E
  obtain ⟨I', e, g1, g2⟩ := c_takes h7 h8 (by omega) ht
  exact ⟨I', e, g1, fun a x _ _ => g2 a (by omega)⟩
theorem c_isChild (hC : CSh c s T N R) (hS : StSh s T N R) (hk : I s 9 = ii k) (hk4 : k ≤ 4) (x : Int32) : fX0_isChild T I R c x = some (bi (rg x 0 ((k : Int) - 1))) := by
  have e : fX0_in x (ii 0) (I s 9 - ii 1) = some (bi (rg x 0 ((k : Int) - 1))) := by
    rw [c_in, hk, ii_m1' (by omega)]
    rfl
  unfold fX0_isChild
  simp (disch := omega) only [↓nm_v, ↓tg, ↓rA, ↓chk_if, ↓reduceIte, inb_ii, ii_nat, ii_add, and_self, bi_zb, if_bi, if_bi1, ii_leT, ii_leF, ii_ltT, ii_ltF, ii_eqF, ii_m1F, ↓cb_2 hC, ↓cb_1 hC, ↓cb_3 hC, ↓cb_4 hC, ↓cb_5 hC, ↓cb_6 hC, ↓cb_7 hC, ↓cb_10 hC, ↓cb_17 hC, ↓cb_18 hC, ↓cb_19 hC, ↓cb_20 hC, ↓cb_21 hC, ↓cb_22 hC, ↓cb_23 hC, ↓cb_8 hC, ↓cb_9 hC, ↓cb_24 hC, ↓cb_16 hC, ↓cb29_0 hC, ↓cb29_1 hC, ↓sb_0 hS, ↓sb1_0 hS, ↓sb1_1 hS, ↓sb1_2 hS, ↓sb_1 hS, ↓sb_2 hS, ↓sb_3 hS, ↓sb_4 hS, ↓sb_5 hS, ↓sb_6 hS, ↓sb_7 hS, hC, hS, ↓bn_of e]
theorem m_isChild (hM : MSh m T N R) (hk : I (m + 2) 1 = ii k) (hk4 : k ≤ 4) (x : Int32) : fX5_isChild T N I R m x = some (bi (rg x 0 ((k : Int) - 1))) := by
  have e : fX5_in x.toInt64 (jj 0) ((I (m + 2) 1).toInt64 - jj 1) = some (bi (rg x 0 ((k : Int) - 1))) := by
    rw [m_in, hk, ii_64 (by omega), jj_m1 (by omega)]
    rfl
  unfold fX5_isChild
  simp (disch := omega) only [↓nm_v, ↓tg, ↓rA, ↓chk_if, ↓reduceIte, inb_ii, ii_nat, ii_add, and_self, bi_zb, if_bi, if_bi1, ii_leT, ii_leF, ii_ltT, ii_ltF, ii_eqF, ii_m1F, ↓mb_2 hM, ↓mb_3 hM, ↓mb_4 hM, ↓mb_5 hM, ↓mb_6 hM, ↓mb_7 hM, ↓mb_9 hM, ↓mb_10 hM, ↓mb_12 hM, ↓mb_22 hM, ↓mb_24 hM, ↓mb_25 hM, ↓mb_27 hM, ↓mb_28 hM, ↓mb_31 hM, ↓mb_32 hM, ↓mb_33 hM, ↓mb_35 hM, ↓mb_36 hM, ↓mb_37 hM, ↓mb_41 hM, ↓mb_42 hM, ↓mb_43 hM, ↓mb_44 hM, ↓mb_45 hM, ↓mb_46 hM, ↓mb_47 hM, ↓mb_48 hM, ↓mb_49 hM, ↓mb_55 hM, hM, ↓bn_of e]
theorem c_isLane (hC : CSh c s T N R) (hS : StSh s T N R) (hk : I s 8 = ii n) (hk4 : n ≤ 10) (x : Int32) : fX0_isLane T I R c x = some (bi (rg x 0 ((n : Int) - 1))) := by
  have e : fX0_in x (ii 0) (I s 8 - ii 1) = some (bi (rg x 0 ((n : Int) - 1))) := by
    rw [c_in, hk, ii_m1' (by omega)]
    rfl
  unfold fX0_isLane
  simp (disch := omega) only [↓nm_v, ↓tg, ↓rA, ↓chk_if, ↓reduceIte, inb_ii, ii_nat, ii_add, and_self, bi_zb, if_bi, if_bi1, ii_leT, ii_leF, ii_ltT, ii_ltF, ii_eqF, ii_m1F, ↓cb_2 hC, ↓cb_1 hC, ↓cb_3 hC, ↓cb_4 hC, ↓cb_5 hC, ↓cb_6 hC, ↓cb_7 hC, ↓cb_10 hC, ↓cb_17 hC, ↓cb_18 hC, ↓cb_19 hC, ↓cb_20 hC, ↓cb_21 hC, ↓cb_22 hC, ↓cb_23 hC, ↓cb_8 hC, ↓cb_9 hC, ↓cb_24 hC, ↓cb_16 hC, ↓cb29_0 hC, ↓cb29_1 hC, ↓sb_0 hS, ↓sb1_0 hS, ↓sb1_1 hS, ↓sb1_2 hS, ↓sb_1 hS, ↓sb_2 hS, ↓sb_3 hS, ↓sb_4 hS, ↓sb_5 hS, ↓sb_6 hS, ↓sb_7 hS, hC, hS, ↓bn_of e]
theorem m_isLane (hM : MSh m T N R) (hk : I (m + 2) 0 = ii n) (hk4 : n ≤ 10) (x : Int32) : fX5_isLane T N I R m x = some (bi (rg x 0 ((n : Int) - 1))) := by
  have e : fX5_in x.toInt64 (jj 0) ((I (m + 2) 0).toInt64 - jj 1) = some (bi (rg x 0 ((n : Int) - 1))) := by
    rw [m_in, hk, ii_64 (by omega), jj_m1 (by omega)]
    rfl
  unfold fX5_isLane
  simp (disch := omega) only [↓nm_v, ↓tg, ↓rA, ↓chk_if, ↓reduceIte, inb_ii, ii_nat, ii_add, and_self, bi_zb, if_bi, if_bi1, ii_leT, ii_leF, ii_ltT, ii_ltF, ii_eqF, ii_m1F, ↓mb_2 hM, ↓mb_3 hM, ↓mb_4 hM, ↓mb_5 hM, ↓mb_6 hM, ↓mb_7 hM, ↓mb_9 hM, ↓mb_10 hM, ↓mb_12 hM, ↓mb_22 hM, ↓mb_24 hM, ↓mb_25 hM, ↓mb_27 hM, ↓mb_28 hM, ↓mb_31 hM, ↓mb_32 hM, ↓mb_33 hM, ↓mb_35 hM, ↓mb_36 hM, ↓mb_37 hM, ↓mb_41 hM, ↓mb_42 hM, ↓mb_43 hM, ↓mb_44 hM, ↓mb_45 hM, ↓mb_46 hM, ↓mb_47 hM, ↓mb_48 hM, ↓mb_49 hM, ↓mb_55 hM, hM, ↓bn_of e]
theorem rgk {x : Int32} {k : Nat} (h : rg x 0 ((k : Int) - 1) = true) : ∃ ch : Nat, x = ii ch ∧ ch < k := by
  obtain ⟨h1, h2⟩ := rg_t h
  obtain ⟨ch, h3, h4, _⟩ := ii_ex h1 h2
  exact ⟨ch, h3, by omega⟩
/-- what where answers -/
def whereA (D : Laws) (n k : Nat) (g : Nat → Int32) (x y : Int32) : Int32 := if rg x 0 ((k : Int) - 1) = true ∧ rg y 0 60 = true then pasN D n k y.toNatClampNeg g (18 + x.toNatClampNeg) else -1
theorem c_where (E : CE nf c s D fz T0 N0 I0 R0 T N R I) (hr : StR I s g) (ht : TbR I (s + 1) g) (ho : rOK g n k H) (hH : H ≤ 1000) (hnf : 70 < nf) (x y : Int32) :
    ∃ I' w, fX0_where nf T N I L R c x y = some (whereA D n k g x y, I', sL L (c + 31) w) ∧ tr c I I' := by
  obtain ⟨h1, h2, h3, h4, hC, hS, hB, h8⟩ := id E
  have hk := ho.1.2.2.2
  have hk9 : I s 9 = ii k := hr.2.1.trans ho.1.2.2.1
  unfold fX0_where whereA
  cases q1 : rg x 0 ((k : Int) - 1) with
  | false =>
    refine ⟨I, L (c + 31), ?_, tr_refl _ _⟩
    rw [sL_id]
    simp (disch := omega) only [↓nm_v, ↓tg, ↓rA, ↓chk_if, ↓reduceIte, inb_ii, ii_nat, ii_add, and_self, bi_zb, if_bi, if_bi1, ii_leT, ii_leF, ii_ltT, ii_ltF, ii_eqF, ii_m1F, ↓cb_2 hC, ↓cb_1 hC, ↓cb_3 hC, ↓cb_4 hC, ↓cb_5 hC, ↓cb_6 hC, ↓cb_7 hC, ↓cb_10 hC, ↓cb_17 hC, ↓cb_18 hC, ↓cb_19 hC, ↓cb_20 hC, ↓cb_21 hC, ↓cb_22 hC, ↓cb_23 hC, ↓cb_8 hC, ↓cb_9 hC, ↓cb_24 hC, ↓cb_16 hC, ↓cb29_0 hC, ↓cb29_1 hC, ↓sb_0 hS, ↓sb1_0 hS, ↓sb1_1 hS, ↓sb1_2 hS, ↓sb_1 hS, ↓sb_2 hS, ↓sb_3 hS, ↓sb_4 hS, ↓sb_5 hS, ↓sb_6 hS, ↓sb_7 hS, hC, hS, ↓bn_of (c_isChild hC hS hk9 hk x), q1, Bool.false_eq_true, false_and]
  | true =>
    cases q2 : rg y 0 60 with
    | false =>
      refine ⟨I, L (c + 31), ?_, tr_refl _ _⟩
      rw [sL_id]
      simp (disch := omega) only [↓nm_v, ↓tg, ↓rA, ↓chk_if, ↓reduceIte, inb_ii, ii_nat, ii_add, and_self, bi_zb, if_bi, if_bi1, ii_leT, ii_leF, ii_ltT, ii_ltF, ii_eqF, ii_m1F, ↓cb_2 hC, ↓cb_1 hC, ↓cb_3 hC, ↓cb_4 hC, ↓cb_5 hC, ↓cb_6 hC, ↓cb_7 hC, ↓cb_10 hC, ↓cb_17 hC, ↓cb_18 hC, ↓cb_19 hC, ↓cb_20 hC, ↓cb_21 hC, ↓cb_22 hC, ↓cb_23 hC, ↓cb_8 hC, ↓cb_9 hC, ↓cb_24 hC, ↓cb_16 hC, ↓cb29_0 hC, ↓cb29_1 hC, ↓sb_0 hS, ↓sb1_0 hS, ↓sb1_1 hS, ↓sb1_2 hS, ↓sb_1 hS, ↓sb_2 hS, ↓sb_3 hS, ↓sb_4 hS, ↓sb_5 hS, ↓sb_6 hS, ↓sb_7 hS, hC, hS, ↓bn_of (c_isChild hC hS hk9 hk x), ↓bn_of (c_i0_60 y), q1, q2, Bool.false_eq_true, and_false]
    | true =>
      obtain ⟨ch, rfl, hch⟩ := rgk q1
      obtain ⟨N1, rfl, hN1, _⟩ := rg_ex (hi := 60) q2
      obtain ⟨I1, e1, g1, t1⟩ := c_take24 E ht
      have loop := loop_rel (fun q (p : xI × (Nat → Int64)) i => fX0_where_b33 nf T N R q p.1 (sL L (c + 31) p.2) c (ii ch) (ii N1) (ii i)) (fun i p => TbR p.1 (c + 24) (pasN D n k i g) ∧ StR p.1 s (pasN D n k i g) ∧ tr c I p.1) N1 (fun p => some (p.1 (c + 24 + 1) ch, p.1, sL L (c + 31) p.2)) ?_ ?_ N1 0 (I1, L (c + 31)) nf (by omega) (by omega) ⟨g1, StR_tr h4 hr t1, t1⟩
      · obtain ⟨⟨I2, w⟩, e2, g2, _, t2⟩ := loop
        simp only [sL_id] at e2
        refine ⟨I2, w, ?_, t2⟩
        have e3 : I2 (c + 24 + 1) ch = pasN D n k N1 g (18 + ch) := g2.2.1 ch (by omega)
        simp (disch := omega) only [↓nm_v, ↓tg, ↓rA, ↓chk_if, ↓reduceIte, inb_ii, ii_nat, ii_add, and_self, bi_zb, if_bi, if_bi1, ii_leT, ii_leF, ii_ltT, ii_ltF, ii_eqF, ii_m1F, ↓cb_2 hC, ↓cb_1 hC, ↓cb_3 hC, ↓cb_4 hC, ↓cb_5 hC, ↓cb_6 hC, ↓cb_7 hC, ↓cb_10 hC, ↓cb_17 hC, ↓cb_18 hC, ↓cb_19 hC, ↓cb_20 hC, ↓cb_21 hC, ↓cb_22 hC, ↓cb_23 hC, ↓cb_8 hC, ↓cb_9 hC, ↓cb_24 hC, ↓cb_16 hC, ↓cb29_0 hC, ↓cb29_1 hC, ↓sb_0 hS, ↓sb1_0 hS, ↓sb1_1 hS, ↓sb1_2 hS, ↓sb_1 hS, ↓sb_2 hS, ↓sb_3 hS, ↓sb_4 hS, ↓sb_5 hS, ↓sb_6 hS, ↓sb_7 hS, hC, hS, fX0_table, ↓bn_e, ↓bb_0 hB, ↓bb_1 hB, ↓bb_2 hB, hB, ↓bn_of (c_isChild hC hS hk9 hk (ii ch)), ↓bn_of (c_i0_60 (ii N1)), q1, q2, ↓bn_of e1]
        refine e2.trans ?_
        rw [← e3]
      · rintro q ⟨I2, w⟩ i hi ⟨g2, r2, t2⟩
        obtain ⟨o1, o2⟩ := pasN_ok (D := D) ho i (by omega)
        obtain ⟨I3, w3, e3, g3, r3, t3⟩ := c_try1 (L := sL L (c + 31) w) (CE_tr E t2) r2 g2 o1 (by omega) hnf
        rw [sL_sL] at e3
        refine ⟨(I3, w3), ?_, ?_⟩
        · show fX0_where_b33 nf T N R (q + 1) I2 (sL L (c + 31) w) c (ii ch) (ii N1) (ii i) = _
          rw [fX0_where_b33]
          simp (disch := omega) only [↓nm_v, ↓tg, ↓rA, ↓chk_if, ↓reduceIte, inb_ii, ii_nat, ii_add, and_self, bi_zb, if_bi, if_bi1, ii_leT, ii_leF, ii_ltT, ii_ltF, ii_eqF, ii_m1F, ↓cb_2 hC, ↓cb_1 hC, ↓cb_3 hC, ↓cb_4 hC, ↓cb_5 hC, ↓cb_6 hC, ↓cb_7 hC, ↓cb_10 hC, ↓cb_17 hC, ↓cb_18 hC, ↓cb_19 hC, ↓cb_20 hC, ↓cb_21 hC, ↓cb_22 hC, ↓cb_23 hC, ↓cb_8 hC, ↓cb_9 hC, ↓cb_24 hC, ↓cb_16 hC, ↓cb29_0 hC, ↓cb29_1 hC, ↓sb_0 hS, ↓sb1_0 hS, ↓sb1_1 hS, ↓sb1_2 hS, ↓sb_1 hS, ↓sb_2 hS, ↓sb_3 hS, ↓sb_4 hS, ↓sb_5 hS, ↓sb_6 hS, ↓sb_7 hS, hC, hS, ↓b3_of e3]
        · rw [pasN_s]
          exact ⟨g3, r3, tr_trans t2 t3⟩
      · rintro q ⟨I2, w⟩ ⟨g2, r2, t2⟩
        show fX0_where_b33 nf T N R (q + 1) I2 (sL L (c + 31) w) c (ii ch) (ii N1) (ii N1) = _
        rw [fX0_where_b33]
        simp (disch := omega) only [↓nm_v, ↓tg, ↓rA, ↓chk_if, ↓reduceIte, inb_ii, ii_nat, ii_add, and_self, bi_zb, if_bi, if_bi1, ii_leT, ii_leF, ii_ltT, ii_ltF, ii_eqF, ii_m1F, ↓cb_2 hC, ↓cb_1 hC, ↓cb_3 hC, ↓cb_4 hC, ↓cb_5 hC, ↓cb_6 hC, ↓cb_7 hC, ↓cb_10 hC, ↓cb_17 hC, ↓cb_18 hC, ↓cb_19 hC, ↓cb_20 hC, ↓cb_21 hC, ↓cb_22 hC, ↓cb_23 hC, ↓cb_8 hC, ↓cb_9 hC, ↓cb_24 hC, ↓cb_16 hC, ↓cb29_0 hC, ↓cb29_1 hC, ↓sb_0 hS, ↓sb1_0 hS, ↓sb1_1 hS, ↓sb1_2 hS, ↓sb_1 hS, ↓sb_2 hS, ↓sb_3 hS, ↓sb_4 hS, ↓sb_5 hS, ↓sb_6 hS, ↓sb_7 hS, hC, hS, ↓bb_0 hB, ↓bb_1 hB, ↓bb_2 hB, hB]
/-- the model's world that is not the row -/
def ME (nf m : Nat) (D : Laws) (T N : xT) (R : xR) (tx : Nat → Int32) (g : Nat → Int32) (I : xI) : Prop := bar1 D ∧ MTold nf m D T N R tx ∧ MSh m T N R ∧ mH m g tx I
/-- only what is kept aside has changed, and what is left behind -/
def mT (m : Nat) (I I' : xI) (L L' : xL) : Prop := (∀ a, a ≠ m → a ≠ m + 5 → a ≠ m + 21 → a ≠ m + 22 → I' a = I a) ∧ (∀ j, j ≠ 0 → j ≠ 34 → j ≠ 38 → I' m j = I m j) ∧ (∀ j, j < 336 → I' (m + 5) j = I (m + 5) j) ∧ (∀ a, a ≠ m → a ≠ m + 18 → a ≠ m + 20 → L' a = L a) ∧ (∀ j, j ≠ 39 → j ≠ 40 → L' m j = L m j)
theorem mH_u (h : mH m g tx I) (v : Int32) : mH m g tx (uI I m 0 v) := by
  obtain ⟨h1, h2, h3⟩ := h
  refine ⟨by rw [uI_ne (by omega)]; exact h1, h2, ?_⟩
  rw [uI_mis (by omega)]; exact h3
theorem mH_row {I' : xI} (h : mH m g tx I) (hg : ∀ i, (i = 3 ∨ 76 ≤ i) → g' i = g i) (e : I' (m + 2) = g') (e2 : I' m 20 = I m 20) : mH m g' tx I' := ⟨e, fun i a b => (hg i a).trans (h.2.1 i a b), e2.trans h.2.2⟩
theorem m_where (M : ME nf m D T N R tx g I) (ho : rOK g n k H) (hH : H ≤ 1000) (hnf : 70 < nf) (x y : Int32) :
    ∃ I' L', fX5_where nf T N I L R m x y = some (whereA D n k g x y, I', L') ∧ mT m I I' L L' := by
  obtain ⟨h1, h2, hM, hh⟩ := M
  have hk := ho.1.2.2.2
  have hh0 := mH_u hh (ii 0)
  have hk1 : uI I m 0 (ii 0) (m + 2) 1 = ii k := by rw [hh0.1]; exact ho.1.2.2.1
  have t0 : mT m I (uI I m 0 (ii 0)) L L := ⟨fun a a1 _ _ _ => uI_ne a1, fun j j0 _ _ => uI_mis j0, fun j _ => by rw [uI_ne (by omega)], fun _ _ _ _ => rfl, fun _ _ _ => rfl⟩
  unfold fX5_where whereA
  cases q1 : rg x 0 ((k : Int) - 1) with
  | false =>
    refine ⟨uI I m 0 (ii 0), L, ?_, t0⟩
    simp (disch := omega) only [↓nm_v, ↓tg, ↓rA, ↓chk_if, ↓reduceIte, inb_ii, ii_nat, ii_add, and_self, bi_zb, if_bi, if_bi1, ii_leT, ii_leF, ii_ltT, ii_ltF, ii_eqF, ii_m1F, ↓mb_2 hM, ↓mb_3 hM, ↓mb_4 hM, ↓mb_5 hM, ↓mb_6 hM, ↓mb_7 hM, ↓mb_9 hM, ↓mb_10 hM, ↓mb_12 hM, ↓mb_22 hM, ↓mb_24 hM, ↓mb_25 hM, ↓mb_27 hM, ↓mb_28 hM, ↓mb_31 hM, ↓mb_32 hM, ↓mb_33 hM, ↓mb_35 hM, ↓mb_36 hM, ↓mb_37 hM, ↓mb_41 hM, ↓mb_42 hM, ↓mb_43 hM, ↓mb_44 hM, ↓mb_45 hM, ↓mb_46 hM, ↓mb_47 hM, ↓mb_48 hM, ↓mb_49 hM, ↓mb_55 hM, hM, ↓bn_of (m_isChild hM hk1 hk x), q1, Bool.false_eq_true, false_and]
  | true =>
    cases q2 : rg y 0 60 with
    | false =>
      refine ⟨uI I m 0 (ii 0), L, ?_, t0⟩
      simp (disch := omega) only [↓nm_v, ↓tg, ↓rA, ↓chk_if, ↓reduceIte, inb_ii, ii_nat, ii_add, and_self, bi_zb, if_bi, if_bi1, ii_leT, ii_leF, ii_ltT, ii_ltF, ii_eqF, ii_m1F, ↓mb_2 hM, ↓mb_3 hM, ↓mb_4 hM, ↓mb_5 hM, ↓mb_6 hM, ↓mb_7 hM, ↓mb_9 hM, ↓mb_10 hM, ↓mb_12 hM, ↓mb_22 hM, ↓mb_24 hM, ↓mb_25 hM, ↓mb_27 hM, ↓mb_28 hM, ↓mb_31 hM, ↓mb_32 hM, ↓mb_33 hM, ↓mb_35 hM, ↓mb_36 hM, ↓mb_37 hM, ↓mb_41 hM, ↓mb_42 hM, ↓mb_43 hM, ↓mb_44 hM, ↓mb_45 hM, ↓mb_46 hM, ↓mb_47 hM, ↓mb_48 hM, ↓mb_49 hM, ↓mb_55 hM, hM, ↓bn_of (m_isChild hM hk1 hk x), ↓bn_of (m_i0_60 y), q1, q2, Bool.false_eq_true, and_false]
    | true =>
      obtain ⟨ch, rfl, hch⟩ := rgk q1
      obtain ⟨N1, rfl, hN1, _⟩ := rg_ex (hi := 60) q2
      have e1 := m_keepAll (I := uI I m 0 (ii 0)) (q := 16) hM hnf (by omega)
      simp (disch := omega) only [↓nm_v, ↓tg, ↓rA, ↓chk_if, ↓reduceIte, inb_ii, ii_nat, ii_add, and_self, bi_zb, if_bi, if_bi1, ii_leT, ii_leF, ii_ltT, ii_ltF, ii_eqF, ii_m1F, ↓mb_2 hM, ↓mb_3 hM, ↓mb_4 hM, ↓mb_5 hM, ↓mb_6 hM, ↓mb_7 hM, ↓mb_9 hM, ↓mb_10 hM, ↓mb_12 hM, ↓mb_22 hM, ↓mb_24 hM, ↓mb_25 hM, ↓mb_27 hM, ↓mb_28 hM, ↓mb_31 hM, ↓mb_32 hM, ↓mb_33 hM, ↓mb_35 hM, ↓mb_36 hM, ↓mb_37 hM, ↓mb_41 hM, ↓mb_42 hM, ↓mb_43 hM, ↓mb_44 hM, ↓mb_45 hM, ↓mb_46 hM, ↓mb_47 hM, ↓mb_48 hM, ↓mb_49 hM, ↓mb_55 hM, hM, ↓bn_of (m_isChild hM hk1 hk (ii ch)), ↓bn_of (m_i0_60 (ii N1)), q1, q2, ↓bn_of e1]
      rw [hh0.1]
      have hhK : mH m g tx (sI (uI I m 0 (ii 0)) (m + 5) (kpA g (uI I m 0 (ii 0) (m + 5)) 16)) := mH_row hh0 (fun _ _ => rfl) (by rw [sI_ne (by omega)]; exact hh0.1) (by rw [sI_ne (by omega)])
      have loop := loop_rel (fun q (p : xI × xL) i => fX5_where_b35 nf T N R q p.1 p.2 m (ii ch) (ii N1) (ii i)) (fun i p => p.1 (m + 2) = pasN D n k i g ∧ mSp m (sI (uI I m 0 (ii 0)) (m + 5) (kpA g (uI I m 0 (ii 0) (m + 5)) 16)) p.1 L p.2) N1 (fun p => some (pasN D n k N1 g (18 + ch), sI p.1 (m + 2) g, p.2)) ?_ ?_ N1 0 (sI (uI I m 0 (ii 0)) (m + 5) (kpA g (uI I m 0 (ii 0) (m + 5)) 16), L) nf (by omega) (by omega) ⟨hhK.1, mSp_refl _ _ _⟩
      · obtain ⟨⟨I2, L2⟩, e2, g2, t2⟩ := loop
        have t2 : mSp m _ I2 L L2 := t2
        refine ⟨sI I2 (m + 2) g, L2, e2, ?_, ?_, ?_, t2.2.2.1, t2.2.2.2⟩
        · intro a a1 a2 a3 a4
          by_cases q : a = m + 2
          · rw [q, sI_at]; exact hh.1.symm
          · rw [sI_ne q, t2.1 a a1 q a3, sI_ne a2, uI_ne a1]
        · intro j j0 j1 j2
          rw [sI_ne (by omega), t2.2.1 j j1 j2, sI_ne (by omega), uI_mis j0]
        · intro j hj
          rw [sI_ne (by omega), t2.1 (m + 5) (by omega) (by omega) (by omega), sI_at]
          unfold kpA
          rw [if_neg (by omega), uI_ne (by omega)]
      · rintro q ⟨I2, L2⟩ i hi ⟨g2, t2⟩
        have g2 : I2 (m + 2) = pasN D n k i g := g2
        have t2 : mSp m _ I2 L L2 := t2
        obtain ⟨o1, o2⟩ := pasN_ok (D := D) ho i (by omega)
        have hh2 : mH m (pasN D n k i g) tx I2 := mH_row hhK (fun j hj => o2 j (by omega) (by omega)) g2 (t2.2.1 20 (by omega) (by omega))
        obtain ⟨I3, L3, e3, g3, t3⟩ := m_passIt (L := L2) h1 h2 hM hh2 o1 (by omega) hnf
        refine ⟨(I3, L3), ?_, ?_⟩
        · show fX5_where_b35 nf T N R (q + 1) I2 L2 m (ii ch) (ii N1) (ii i) = _
          rw [fX5_where_b35]
          simp (disch := omega) only [↓nm_v, ↓tg, ↓rA, ↓chk_if, ↓reduceIte, inb_ii, ii_nat, ii_add, and_self, bi_zb, if_bi, if_bi1, ii_leT, ii_leF, ii_ltT, ii_ltF, ii_eqF, ii_m1F, ↓mb_2 hM, ↓mb_3 hM, ↓mb_4 hM, ↓mb_5 hM, ↓mb_6 hM, ↓mb_7 hM, ↓mb_9 hM, ↓mb_10 hM, ↓mb_12 hM, ↓mb_22 hM, ↓mb_24 hM, ↓mb_25 hM, ↓mb_27 hM, ↓mb_28 hM, ↓mb_31 hM, ↓mb_32 hM, ↓mb_33 hM, ↓mb_35 hM, ↓mb_36 hM, ↓mb_37 hM, ↓mb_41 hM, ↓mb_42 hM, ↓mb_43 hM, ↓mb_44 hM, ↓mb_45 hM, ↓mb_46 hM, ↓mb_47 hM, ↓mb_48 hM, ↓mb_49 hM, ↓mb_55 hM, hM, ↓b3_of e3]
        · rw [pasN_s]
          exact ⟨g3, mSp_trans t2 t3⟩
      · rintro q ⟨I2, L2⟩ ⟨g2, t2⟩
        have g2 : I2 (m + 2) = pasN D n k N1 g := g2
        have t2 : mSp m _ I2 L L2 := t2
        obtain ⟨o1, o2⟩ := pasN_ok (D := D) ho N1 (by omega)
        have eu : I2 (m + 5) = kpA g (uI I m 0 (ii 0) (m + 5)) 16 := by rw [t2.1 (m + 5) (by omega) (by omega) (by omega), sI_at]
        have ep := m_putBack (I := I2) (q := 16) hM hnf (by omega)
        rw [g2, eu, pb_kp _ _ _ (fun j hj => o2 j (by omega) (by omega))] at ep
        show fX5_where_b35 nf T N R (q + 1) I2 L2 m (ii ch) (ii N1) (ii N1) = _
        rw [fX5_where_b35]
        simp (disch := omega) only [↓nm_v, ↓tg, ↓rA, ↓chk_if, ↓reduceIte, inb_ii, ii_nat, ii_add, and_self, bi_zb, if_bi, if_bi1, ii_leT, ii_leF, ii_ltT, ii_ltF, ii_eqF, ii_m1F, ↓mb_2 hM, ↓mb_3 hM, ↓mb_4 hM, ↓mb_5 hM, ↓mb_6 hM, ↓mb_7 hM, ↓mb_9 hM, ↓mb_10 hM, ↓mb_12 hM, ↓mb_22 hM, ↓mb_24 hM, ↓mb_25 hM, ↓mb_27 hM, ↓mb_28 hM, ↓mb_31 hM, ↓mb_32 hM, ↓mb_33 hM, ↓mb_35 hM, ↓mb_36 hM, ↓mb_37 hM, ↓mb_41 hM, ↓mb_42 hM, ↓mb_43 hM, ↓mb_44 hM, ↓mb_45 hM, ↓mb_46 hM, ↓mb_47 hM, ↓mb_48 hM, ↓mb_49 hM, ↓mb_55 hM, hM, g2, ↓bn_of ep]
end
