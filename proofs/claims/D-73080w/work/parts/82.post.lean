/-! PLAIN LAND, 32: found, post: what they answer -/
def gA (g : Nat → Int32) (l : Nat) : Nat := na g (26 + l)
def gB (g : Nat → Int32) (l : Nat) : Nat := na g (36 + l)
def gW (g : Nat → Int32) (l : Nat) : Nat := na g (46 + l)
section
variable {T N T0 N0 : xT} {R R0 : xR} {I I0 : xI} {L : xL} {c s t u m n k nf H : Nat} {D : Laws} {fz : Nat → Prop} {g g' tx : Nat → Int32}
theorem GrC_of (hr : StR I s g) (ho : rOK g n k H) : GrC I s n (gA g) (gB g) (gW g) := by
  have hn := ho.1.2.1
  exact ⟨hr.1.trans ho.1.1, fun l hl => (hr.2.2.2.2.2.2.1 l (by omega)).trans (ho.2.2.2.2.2.1 l hl).1, fun l hl => (hr.2.2.2.2.2.2.2.1 l (by omega)).trans (ho.2.2.2.2.2.2.1 l hl).1, fun l hl => (hr.2.2.2.2.2.2.2.2.1 l (by omega)).trans (ho.2.2.2.2.2.2.2.2.1 l hl).1⟩
theorem GrM_of (hg : I (m + 2) = g) (ho : rOK g n k H) : GrM I m n (gA g) (gB g) (gW g) := by
  subst hg
  exact ⟨ho.1.1, fun l hl => (ho.2.2.2.2.2.1 l hl).1, fun l hl => (ho.2.2.2.2.2.2.1 l hl).1, fun l hl => (ho.2.2.2.2.2.2.2.2.1 l hl).1⟩
theorem GrP_of (ho : rOK g n k H) : GrP n (gA g) (gB g) (gW g) := ⟨ho.1.2.1, fun l hl => (ho.2.2.2.2.2.1 l hl).2, fun l hl => (ho.2.2.2.2.2.2.1 l hl).2, ho.2.2.2.2.2.2.2.1, fun l hl => (ho.2.2.2.2.2.2.2.2.1 l hl).2⟩
def fFar (F : Nat) (g : Nat → Int32) (n : Nat) : Nat → Nat := fwA F (gA g) (gB g) (gW g) n
def foundA (D : Laws) (n k : Nat) (g : Nat → Int32) (x y : Int32) : Int32 := if rg x 0 7 = true ∧ rg y 0 ((k : Int) - 1) = true then agN (fnd (fdP (fFar 1000000 g n) D n k g x.toNatClampNeg y.toNatClampNeg) 61 0) else -1
theorem CE_s (E : CE nf c s D fz T0 N0 I0 R0 T N R I) {a : Nat} (ha : c + 14 < a ∧ a < c + 202) (x : Nat → Int32) : CE nf c s D fz T0 N0 I0 R0 T N R (sI I a x) := by
  obtain ⟨h1, h2, h3, h4⟩ := E
  refine ⟨h1, fun b hb => ?_, h3, h4⟩
  have := h3 b hb
  rw [sI_ne (by omega)]
  exact h2 b hb
theorem StR_s (hr : StR I s g) {a : Nat} (ha : a < s ∨ s + 11 < a) (x : Nat → Int32) : StR (sI I a x) s g := StR_I hr (fun b hb => sI_ne (by omega))
theorem TbR_s (ht : TbR I t g) {a : Nat} (ha : a < t ∨ t + 3 < a) (x : Nat → Int32) : TbR (sI I a x) t g := TbR_I ht (by rw [sI_ne (by omega)]) (sI_ne (by omega)) (sI_ne (by omega)) (sI_ne (by omega))
theorem c_found (E : CE nf c s D fz T0 N0 I0 R0 T N R I) (hr : StR I s g) (ht : TbR I (s + 1) g) (ho : rOK g n k H) (hH : H ≤ 1000) (hnf : 70 < nf) (x y : Int32) :
    ∃ v I' w, fX0_found nf T N I L R c x y = some (foundA D n k g x y, I', sL L (c + 31) w) ∧ tr c (sI I (c + 34) v) I' := by
  obtain ⟨h1, h2, h3, h4, hC, hS, hB, h8⟩ := id E
  have hk := ho.1.2.2.2
  have hk9 : I s 9 = ii k := hr.2.1.trans ho.1.2.2.1
  have hP := GrP_of ho
  unfold fX0_found foundA
  cases q1 : rg x 0 7 with
  | false =>
    refine ⟨I (c + 34), I, L (c + 31), ?_, by rw [sI_id]; exact tr_refl _ _⟩
    rw [sL_id]
    simp (disch := omega) only [↓nm_v, ↓tg, ↓rA, ↓chk_if, ↓reduceIte, inb_ii, ii_nat, ii_add, and_self, bi_zb, if_bi, if_bi1, ii_leT, ii_leF, ii_ltT, ii_ltF, ii_eqF, ii_m1F, ↓cb_2 hC, ↓cb_1 hC, ↓cb_3 hC, ↓cb_4 hC, ↓cb_5 hC, ↓cb_6 hC, ↓cb_7 hC, ↓cb_10 hC, ↓cb_17 hC, ↓cb_18 hC, ↓cb_19 hC, ↓cb_20 hC, ↓cb_21 hC, ↓cb_22 hC, ↓cb_23 hC, ↓cb_8 hC, ↓cb_9 hC, ↓cb_24 hC, ↓cb_16 hC, ↓cb29_0 hC, ↓cb29_1 hC, ↓sb_0 hS, ↓sb1_0 hS, ↓sb1_1 hS, ↓sb1_2 hS, ↓sb_1 hS, ↓sb_2 hS, ↓sb_3 hS, ↓sb_4 hS, ↓sb_5 hS, ↓sb_6 hS, ↓sb_7 hS, hC, hS, ↓bn_of (c_isCorner x), q1, Bool.false_eq_true, false_and]
  | true =>
    cases q2 : rg y 0 ((k : Int) - 1) with
    | false =>
      refine ⟨I (c + 34), I, L (c + 31), ?_, by rw [sI_id]; exact tr_refl _ _⟩
      rw [sL_id]
      simp (disch := omega) only [↓nm_v, ↓tg, ↓rA, ↓chk_if, ↓reduceIte, inb_ii, ii_nat, ii_add, and_self, bi_zb, if_bi, if_bi1, ii_leT, ii_leF, ii_ltT, ii_ltF, ii_eqF, ii_m1F, ↓cb_2 hC, ↓cb_1 hC, ↓cb_3 hC, ↓cb_4 hC, ↓cb_5 hC, ↓cb_6 hC, ↓cb_7 hC, ↓cb_10 hC, ↓cb_17 hC, ↓cb_18 hC, ↓cb_19 hC, ↓cb_20 hC, ↓cb_21 hC, ↓cb_22 hC, ↓cb_23 hC, ↓cb_8 hC, ↓cb_9 hC, ↓cb_24 hC, ↓cb_16 hC, ↓cb29_0 hC, ↓cb29_1 hC, ↓sb_0 hS, ↓sb1_0 hS, ↓sb1_1 hS, ↓sb1_2 hS, ↓sb_1 hS, ↓sb_2 hS, ↓sb_3 hS, ↓sb_4 hS, ↓sb_5 hS, ↓sb_6 hS, ↓sb_7 hS, hC, hS, ↓bn_of (c_isCorner x), ↓bn_of (c_isChild hC hS hk9 hk y), q1, q2, Bool.false_eq_true, and_false]
    | true =>
      obtain ⟨f, rfl, hf⟩ := rg7 q1
      obtain ⟨ch, rfl, hch⟩ := rgk q2
      obtain ⟨v, e, hv⟩ := c_laysFar hC hS h4 (GrC_of hr ho) hP hnf
      obtain ⟨I2, w, e2, t2⟩ := c_foundFrom (L := L) (Fd := fFar 1000000 g n) (CE_s E (a := c + 34) (by omega) v) (StR_s hr (by omega) v) (TbR_s ht (by omega) v) ho hH hnf (by rw [sI_at]; exact hv) (fw_le64 (fwK 1000000 hP).1) hf hch
      refine ⟨v, I2, w, ?_, t2⟩
      have hle := fnd_le (fdP (fFar 1000000 g n) D n k g f ch) 61 0
      unfold agN
      unfold fdN at e2
      by_cases q : fnd (fdP (fFar 1000000 g n) D n k g f ch) 61 0 ≤ 60
      · rw [if_pos q] at e2
        simp (disch := omega) only [↓nm_v, ↓tg, ↓rA, ↓chk_if, ↓reduceIte, inb_ii, ii_nat, ii_add, and_self, bi_zb, if_bi, if_bi1, ii_leT, ii_leF, ii_ltT, ii_ltF, ii_eqF, ii_m1F, ↓cb_2 hC, ↓cb_1 hC, ↓cb_3 hC, ↓cb_4 hC, ↓cb_5 hC, ↓cb_6 hC, ↓cb_7 hC, ↓cb_10 hC, ↓cb_17 hC, ↓cb_18 hC, ↓cb_19 hC, ↓cb_20 hC, ↓cb_21 hC, ↓cb_22 hC, ↓cb_23 hC, ↓cb_8 hC, ↓cb_9 hC, ↓cb_24 hC, ↓cb_16 hC, ↓cb29_0 hC, ↓cb29_1 hC, ↓sb_0 hS, ↓sb1_0 hS, ↓sb1_1 hS, ↓sb1_2 hS, ↓sb_1 hS, ↓sb_2 hS, ↓sb_3 hS, ↓sb_4 hS, ↓sb_5 hS, ↓sb_6 hS, ↓sb_7 hS, hC, hS, ↓bn_of (c_isCorner (ii f)), ↓bn_of (c_isChild hC hS hk9 hk (ii ch)), q1, q2, ↓bn_of e, ↓b3_of e2, q]
      · rw [if_neg q] at e2
        simp (disch := omega) only [↓nm_v, ↓tg, ↓rA, ↓chk_if, ↓reduceIte, inb_ii, ii_nat, ii_add, and_self, bi_zb, if_bi, if_bi1, ii_leT, ii_leF, ii_ltT, ii_ltF, ii_eqF, ii_m1F, ↓cb_2 hC, ↓cb_1 hC, ↓cb_3 hC, ↓cb_4 hC, ↓cb_5 hC, ↓cb_6 hC, ↓cb_7 hC, ↓cb_10 hC, ↓cb_17 hC, ↓cb_18 hC, ↓cb_19 hC, ↓cb_20 hC, ↓cb_21 hC, ↓cb_22 hC, ↓cb_23 hC, ↓cb_8 hC, ↓cb_9 hC, ↓cb_24 hC, ↓cb_16 hC, ↓cb29_0 hC, ↓cb29_1 hC, ↓sb_0 hS, ↓sb1_0 hS, ↓sb1_1 hS, ↓sb1_2 hS, ↓sb_1 hS, ↓sb_2 hS, ↓sb_3 hS, ↓sb_4 hS, ↓sb_5 hS, ↓sb_6 hS, ↓sb_7 hS, hC, hS, ↓bn_of (c_isCorner (ii f)), ↓bn_of (c_isChild hC hS hk9 hk (ii ch)), q1, q2, ↓bn_of e, ↓b3_of e2, q]
theorem mT_trans {I1 I2 : xI} {L1 L2 : xL} (h1 : mT m I I1 L L1) (h2 : mT m I1 I2 L1 L2) : mT m I I2 L L2 :=
  ⟨fun a x y z v => (h2.1 a x y z v).trans (h1.1 a x y z v), fun j a b d => (h2.2.1 j a b d).trans (h1.2.1 j a b d), fun j hj => (h2.2.2.1 j hj).trans (h1.2.2.1 j hj), fun a x y z => (h2.2.2.2.1 a x y z).trans (h1.2.2.2.1 a x y z), fun j a b => (h2.2.2.2.2 j a b).trans (h1.2.2.2.2 j a b)⟩
theorem mT_0 (m : Nat) (I : xI) (L : xL) (v : Int32) : mT m I (uI I m 0 v) L L := ⟨fun a a1 _ _ _ => uI_ne a1, fun j j0 _ _ => uI_mis j0, fun j _ => by rw [uI_ne (by omega)], fun _ _ _ _ => rfl, fun _ _ _ => rfl⟩
theorem mT_22 (m : Nat) (I : xI) (L : xL) (v : Nat → Int32) : mT m I (sI I (m + 22) v) L L := ⟨fun a _ _ _ a4 => sI_ne a4, fun j _ _ _ => by rw [sI_ne (by omega)], fun j _ => by rw [sI_ne (by omega)], fun _ _ _ _ => rfl, fun _ _ _ => rfl⟩
theorem mH_22 (h : mH m g tx I) (v : Nat → Int32) : mH m g tx (sI I (m + 22) v) := mH_row h (fun _ _ => rfl) (by rw [sI_ne (by omega)]; exact h.1) (by rw [sI_ne (by omega)])
theorem mH_T {I' : xI} {L' : xL} (h : mH m g tx I) (ht : mT m I I' L L') : mH m g tx I' := mH_row h (fun _ _ => rfl) ((ht.1 (m + 2) (by omega) (by omega) (by omega) (by omega)).trans h.1) (ht.2.1 20 (by omega) (by omega) (by omega))
theorem m_found (M : ME nf m D T N R tx g I) (ho : rOK g n k H) (hH : H ≤ 1000) (hnf : 70 < nf) (x y : Int32) :
    ∃ I' L', fX5_found nf T N I L R m x y = some (foundA D n k g x y, I', L') ∧ mT m I I' L L' := by
  obtain ⟨h1, h2, hM, hh⟩ := id M
  have hk := ho.1.2.2.2
  have hh0 := mH_u hh (ii 0)
  have hk1 : uI I m 0 (ii 0) (m + 2) 1 = ii k := by rw [hh0.1]; exact ho.1.2.2.1
  have hP := GrP_of ho
  unfold fX5_found foundA
  cases q1 : rg x 0 7 with
  | false =>
    refine ⟨uI I m 0 (ii 0), L, ?_, mT_0 _ _ _ _⟩
    simp (disch := omega) only [↓nm_v, ↓tg, ↓rA, ↓chk_if, ↓reduceIte, inb_ii, ii_nat, ii_add, and_self, bi_zb, if_bi, if_bi1, ii_leT, ii_leF, ii_ltT, ii_ltF, ii_eqF, ii_m1F, ↓mb_2 hM, ↓mb_3 hM, ↓mb_4 hM, ↓mb_5 hM, ↓mb_6 hM, ↓mb_7 hM, ↓mb_9 hM, ↓mb_10 hM, ↓mb_12 hM, ↓mb_22 hM, ↓mb_24 hM, ↓mb_25 hM, ↓mb_27 hM, ↓mb_28 hM, ↓mb_31 hM, ↓mb_32 hM, ↓mb_33 hM, ↓mb_35 hM, ↓mb_36 hM, ↓mb_37 hM, ↓mb_41 hM, ↓mb_42 hM, ↓mb_43 hM, ↓mb_44 hM, ↓mb_45 hM, ↓mb_46 hM, ↓mb_47 hM, ↓mb_48 hM, ↓mb_49 hM, ↓mb_55 hM, hM, ↓bn_of (m_isCorner x), q1, Bool.false_eq_true, false_and]
  | true =>
    cases q2 : rg y 0 ((k : Int) - 1) with
    | false =>
      refine ⟨uI I m 0 (ii 0), L, ?_, mT_0 _ _ _ _⟩
      simp (disch := omega) only [↓nm_v, ↓tg, ↓rA, ↓chk_if, ↓reduceIte, inb_ii, ii_nat, ii_add, and_self, bi_zb, if_bi, if_bi1, ii_leT, ii_leF, ii_ltT, ii_ltF, ii_eqF, ii_m1F, ↓mb_2 hM, ↓mb_3 hM, ↓mb_4 hM, ↓mb_5 hM, ↓mb_6 hM, ↓mb_7 hM, ↓mb_9 hM, ↓mb_10 hM, ↓mb_12 hM, ↓mb_22 hM, ↓mb_24 hM, ↓mb_25 hM, ↓mb_27 hM, ↓mb_28 hM, ↓mb_31 hM, ↓mb_32 hM, ↓mb_33 hM, ↓mb_35 hM, ↓mb_36 hM, ↓mb_37 hM, ↓mb_41 hM, ↓mb_42 hM, ↓mb_43 hM, ↓mb_44 hM, ↓mb_45 hM, ↓mb_46 hM, ↓mb_47 hM, ↓mb_48 hM, ↓mb_49 hM, ↓mb_55 hM, hM, ↓bn_of (m_isCorner x), ↓bn_of (m_isChild hM hk1 hk y), q1, q2, Bool.false_eq_true, and_false]
    | true =>
      obtain ⟨f, rfl, hf⟩ := rg7 q1
      obtain ⟨ch, rfl, hch⟩ := rgk q2
      obtain ⟨v, e, hv⟩ := m_layFar hM (GrM_of hh0.1 ho) hP hnf
      have hh2 := mH_22 hh0 v
      obtain ⟨I2, L2, e2, t2, _⟩ := m_foundAt (I := sI (uI I m 0 (ii 0)) (m + 22) v) (L := L) (Fd := fFar 100000000 g n) ⟨h1, h2, hM, hh2⟩ ho hH hnf (by rw [sI_at]; exact hv) (fw_le64 (fwK 100000000 hP).1) hf hch
      refine ⟨I2, L2, ?_, mT_trans (mT_trans (mT_0 m I L (ii 0)) (mT_22 m _ L v)) t2⟩
      have h2' := fw_two (F := 1000000) (G := 100000000) (by omega) (by omega) hP.2.1 hP.2.2.1 hP.2.2.2.1 hP.2.2.2.2
      rw [← fdP_two (Fd := fFar 1000000 g n) (Fe := fFar 100000000 g n) (D := D) h2' ho hH hf hch] at e2
      have hle := fnd_le (fdP (fFar 1000000 g n) D n k g f ch) 61 0
      unfold agN
      unfold fdN at e2
      by_cases q : fnd (fdP (fFar 1000000 g n) D n k g f ch) 61 0 ≤ 60
      · rw [if_pos q] at e2
        simp (disch := omega) only [↓nm_v, ↓tg, ↓rA, ↓chk_if, ↓reduceIte, inb_ii, ii_nat, ii_add, and_self, bi_zb, if_bi, if_bi1, ii_leT, ii_leF, ii_ltT, ii_ltF, ii_eqF, ii_m1F, ↓mb_2 hM, ↓mb_3 hM, ↓mb_4 hM, ↓mb_5 hM, ↓mb_6 hM, ↓mb_7 hM, ↓mb_9 hM, ↓mb_10 hM, ↓mb_12 hM, ↓mb_22 hM, ↓mb_24 hM, ↓mb_25 hM, ↓mb_27 hM, ↓mb_28 hM, ↓mb_31 hM, ↓mb_32 hM, ↓mb_33 hM, ↓mb_35 hM, ↓mb_36 hM, ↓mb_37 hM, ↓mb_41 hM, ↓mb_42 hM, ↓mb_43 hM, ↓mb_44 hM, ↓mb_45 hM, ↓mb_46 hM, ↓mb_47 hM, ↓mb_48 hM, ↓mb_49 hM, ↓mb_55 hM, hM, ↓bn_of (m_isCorner (ii f)), ↓bn_of (m_isChild hM hk1 hk (ii ch)), q1, q2, ↓bn_of e, ↓b3_of e2, q]
      · rw [if_neg q] at e2
        simp (disch := omega) only [↓nm_v, ↓tg, ↓rA, ↓chk_if, ↓reduceIte, inb_ii, ii_nat, ii_add, and_self, bi_zb, if_bi, if_bi1, ii_leT, ii_leF, ii_ltT, ii_ltF, ii_eqF, ii_m1F, ↓mb_2 hM, ↓mb_3 hM, ↓mb_4 hM, ↓mb_5 hM, ↓mb_6 hM, ↓mb_7 hM, ↓mb_9 hM, ↓mb_10 hM, ↓mb_12 hM, ↓mb_22 hM, ↓mb_24 hM, ↓mb_25 hM, ↓mb_27 hM, ↓mb_28 hM, ↓mb_31 hM, ↓mb_32 hM, ↓mb_33 hM, ↓mb_35 hM, ↓mb_36 hM, ↓mb_37 hM, ↓mb_41 hM, ↓mb_42 hM, ↓mb_43 hM, ↓mb_44 hM, ↓mb_45 hM, ↓mb_46 hM, ↓mb_47 hM, ↓mb_48 hM, ↓mb_49 hM, ↓mb_55 hM, hM, ↓bn_of (m_isCorner (ii f)), ↓bn_of (m_isChild hM hk1 hk (ii ch)), q1, q2, ↓bn_of e, ↓b3_of e2, q]
end
