/-! PLAIN LAND, 33: post, both sides -/
section
variable {T N T0 N0 : xT} {R R0 : xR} {I I0 : xI} {L : xL} {c s t u m n k nf H : Nat} {D : Laws} {fz : Nat → Prop} {g g' tx : Nat → Int32}
/-- the last to be found from a corner -/
def lsN (F : Nat) (P : Nat → Nat → Nat) (f j : Nat) : Nat := rngF (fun ch v => max v (fdN F (P f ch))) j 0 0
/-- the least of these, the first corner of alike ones -/
def bsS (F : Nat) (P : Nat → Nat → Nat) (k f : Nat) (p : Nat × Int32) : Nat × Int32 := if lsN F P f k < p.1 then (lsN F P f k, ii f) else p
def bsN (F : Nat) (P : Nat → Nat → Nat) (k : Nat) : Nat × Int32 := rngF (bsS F P k) 8 0 (F, -1)
def postA (D : Laws) (n k : Nat) (g : Nat → Int32) (x : Int32) : Int32 :=
  if rg x 0 1 = true ∧ k ≠ 0 then (if (bsN 1000000 (fun f ch => fnd (fdP (fFar 1000000 g n) D n k g f ch) 61 0) k).2 = -1 then -1 else if x = ii 0 then (bsN 1000000 (fun f ch => fnd (fdP (fFar 1000000 g n) D n k g f ch) 61 0) k).2 else ii (bsN 1000000 (fun f ch => fnd (fdP (fFar 1000000 g n) D n k g f ch) 61 0) k).1) else -1
theorem ls_two (P : Nat → Nat → Nat) (f : Nat) : ∀ j, (lsN 1000000 P f j = 1000000 ∧ lsN 100000000 P f j = 100000000) ∨ (lsN 1000000 P f j = lsN 100000000 P f j ∧ lsN 1000000 P f j ≤ 60) := by
  intro j
  induction j with
  | zero => exact Or.inr ⟨rfl, Nat.zero_le _⟩
  | succ j ih =>
    have e1 : lsN 1000000 P f (j + 1) = max (lsN 1000000 P f j) (fdN 1000000 (P f j)) := rngF_s _ _ _
    have e2 : lsN 100000000 P f (j + 1) = max (lsN 100000000 P f j) (fdN 100000000 (P f j)) := rngF_s _ _ _
    rw [e1, e2]
    unfold fdN
    split <;> omega
theorem bs_two (P : Nat → Nat → Nat) (k : Nat) : ∀ d, (rngF (bsS 1000000 P k) d 0 (1000000, -1) = (1000000, -1) ∧ rngF (bsS 100000000 P k) d 0 (100000000, -1) = (100000000, -1)) ∨ ∃ v b, v ≤ 60 ∧ b < d ∧ rngF (bsS 1000000 P k) d 0 (1000000, -1) = (v, ii b) ∧ rngF (bsS 100000000 P k) d 0 (100000000, -1) = (v, ii b) := by
  intro d
  induction d with
  | zero => exact Or.inl ⟨rfl, rfl⟩
  | succ d ih =>
    rw [rngF_s, rngF_s]
    have h := ls_two P d k
    rcases ih with ⟨e1, e2⟩ | ⟨v, b, hv, hb, e1, e2⟩
    · rw [e1, e2]
      unfold bsS
      rcases h with ⟨h1, h2⟩ | ⟨h1, h2⟩
      · left
        rw [h1, h2]
        exact ⟨if_neg (by decide), if_neg (by decide)⟩
      · right
        refine ⟨lsN 1000000 P d k, d, h2, by omega, if_pos (by show _ < 1000000; omega), ?_⟩
        rw [← h1]
        exact if_pos (by show _ < 100000000; omega)
    · rw [e1, e2]
      unfold bsS
      right
      by_cases q : lsN 1000000 P d k < v
      · refine ⟨lsN 1000000 P d k, d, by omega, by omega, if_pos q, ?_⟩
        rw [show lsN 100000000 P d k = lsN 1000000 P d k by omega]
        exact if_pos q
      · refine ⟨v, b, hv, by omega, if_neg q, if_neg ?_⟩
        show ¬ lsN 100000000 P d k < v
        omega
theorem ls_le (P : Nat → Nat → Nat) (f j : Nat) : lsN 1000000 P f j ≤ 1000000 ∧ lsN 100000000 P f j ≤ 100000000 := by
  have := ls_two P f j
  omega
theorem fd_le (F f : Nat) (hF : 60 ≤ F) : fdN F f ≤ F := by
  unfold fdN
  split <;> omega
theorem c_post (E : CE nf c s D fz T0 N0 I0 R0 T N R I) (hr : StR I s g) (ht : TbR I (s + 1) g) (ho : rOK g n k H) (hH : H ≤ 1000) (hnf : 70 < nf) (x : Int32) :
    ∃ v I' w, fX0_post nf T N I L R c x = some (postA D n k g x, I', sL L (c + 31) w) ∧ tr c (sI I (c + 34) v) I' := by
  obtain ⟨h1, h2, h3, h4, hC, hS, hB, h8⟩ := id E
  have hk := ho.1.2.2.2
  have hk9 : I s 9 = ii k := hr.2.1.trans ho.1.2.2.1
  have hP := GrP_of ho
  unfold fX0_post postA
  cases q1 : rg x 0 1 with
  | false =>
    refine ⟨I (c + 34), I, L (c + 31), ?_, by rw [sI_id]; exact tr_refl _ _⟩
    rw [sL_id]
    simp (disch := omega) only [↓nm_v, ↓tg, ↓rA, ↓chk_if, ↓reduceIte, inb_ii, ii_nat, ii_add, and_self, bi_zb, if_bi, if_bi1, ii_leT, ii_leF, ii_ltT, ii_ltF, ii_eqF, ii_m1F, ↓cb_2 hC, ↓cb_1 hC, ↓cb_3 hC, ↓cb_4 hC, ↓cb_5 hC, ↓cb_6 hC, ↓cb_7 hC, ↓cb_10 hC, ↓cb_17 hC, ↓cb_18 hC, ↓cb_19 hC, ↓cb_20 hC, ↓cb_21 hC, ↓cb_22 hC, ↓cb_23 hC, ↓cb_8 hC, ↓cb_9 hC, ↓cb_24 hC, ↓cb_16 hC, ↓cb29_0 hC, ↓cb29_1 hC, ↓sb_0 hS, ↓sb1_0 hS, ↓sb1_1 hS, ↓sb1_2 hS, ↓sb_1 hS, ↓sb_2 hS, ↓sb_3 hS, ↓sb_4 hS, ↓sb_5 hS, ↓sb_6 hS, ↓sb_7 hS, hC, hS, ↓bn_of (c_i0_1 x), q1, Bool.false_eq_true, false_and]
  | true =>
    by_cases q2 : k = 0
    · subst q2
      refine ⟨I (c + 34), I, L (c + 31), ?_, by rw [sI_id]; exact tr_refl _ _⟩
      rw [sL_id]
      simp (disch := omega) only [↓nm_v, ↓tg, ↓rA, ↓chk_if, ↓reduceIte, inb_ii, ii_nat, ii_add, and_self, bi_zb, if_bi, if_bi1, ii_leT, ii_leF, ii_ltT, ii_ltF, ii_eqF, ii_m1F, ↓cb_2 hC, ↓cb_1 hC, ↓cb_3 hC, ↓cb_4 hC, ↓cb_5 hC, ↓cb_6 hC, ↓cb_7 hC, ↓cb_10 hC, ↓cb_17 hC, ↓cb_18 hC, ↓cb_19 hC, ↓cb_20 hC, ↓cb_21 hC, ↓cb_22 hC, ↓cb_23 hC, ↓cb_8 hC, ↓cb_9 hC, ↓cb_24 hC, ↓cb_16 hC, ↓cb29_0 hC, ↓cb29_1 hC, ↓sb_0 hS, ↓sb1_0 hS, ↓sb1_1 hS, ↓sb1_2 hS, ↓sb_1 hS, ↓sb_2 hS, ↓sb_3 hS, ↓sb_4 hS, ↓sb_5 hS, ↓sb_6 hS, ↓sb_7 hS, hC, hS, ↓bn_of (c_i0_1 x), q1, hk9]
      rfl
    · obtain ⟨v, e, hv⟩ := c_laysFar hC hS h4 (GrC_of hr ho) hP hnf
      have E1 := CE_s E (a := c + 34) (by omega) v
      have r1 := StR_s hr (a := c + 34) (by omega) v
      have t1 := TbR_s ht (a := c + 34) (by omega) v
      have hx1 : arN 64 (sI I (c + 34) v (c + 34)) (fFar 1000000 g n) := by rw [sI_at]; exact hv
      generalize hJ : sI I (c + 34) v = J at E1 r1 t1 hx1 e
      generalize hPP : (fun f ch => fnd (fdP (fFar 1000000 g n) D n k g f ch) 61 0) = P
      have one : ∀ (I2 : xI) (w : Nat → Int64) (f ch : Nat), tr c J I2 → f < 8 → ch < k → ∃ I3 w3, fX0_foundFrom nf T N I2 (sL L (c + 31) w) R c (ii f) (ii ch) = some (ii (fdN 1000000 (P f ch)), I3, sL L (c + 31) w3) ∧ tr c J I3 := by
        intro I2 w f ch t2 hf hch
        obtain ⟨I3, w3, e3, t3⟩ := c_foundFrom (L := sL L (c + 31) w) (Fd := fFar 1000000 g n) (CE_tr E1 t2) (StR_tr h4 r1 t2) (TbR_tr h4 t1 t2) ho hH hnf (by rw [t2 (c + 34) (by omega) (by omega) (by omega)]; exact hx1) (fw_le64 (fwK 1000000 hP).1) hf hch
        rw [sL_sL] at e3
        refine ⟨I3, w3, ?_, tr_trans t2 t3⟩
        rw [← hPP]
        exact e3
      have hkk : ∀ I2, tr c J I2 → I2 s 9 = ii k := by
        intro I2 t2
        rw [t2 s (by omega) (by omega) (by omega)]
        exact r1.2.1.trans ho.1.2.2.1
      have outer := loop_rel (fun q (p : xI × (Nat → Int64)) f => fX0_post_b34 nf T N R q p.1 (sL L (c + 31) p.2) c x (ii (rngF (bsS 1000000 P k) f 0 (1000000, -1)).1) (rngF (bsS 1000000 P k) f 0 (1000000, -1)).2 (ii f)) (fun _ p => tr c J p.1) 8 (fun p => some (if (bsN 1000000 P k).2 = -1 then -1 else if x = ii 0 then (bsN 1000000 P k).2 else ii (bsN 1000000 P k).1, p.1, sL L (c + 31) p.2)) ?_ ?_ 8 0 (J, L (c + 31)) nf (by omega) (by omega) (tr_refl _ _)
      · obtain ⟨⟨I2, w⟩, e2, t2⟩ := outer
        simp only [sL_id] at e2
        refine ⟨v, I2, w, ?_, by rw [hJ]; exact t2⟩
        have hk0 : (ii k = ii 0) = False := eq_false (fun h => q2 ((ii_eq (by omega) (by omega)).mp h))
        simp (disch := omega) only [↓nm_v, ↓tg, ↓rA, ↓chk_if, ↓reduceIte, inb_ii, ii_nat, ii_add, and_self, bi_zb, if_bi, if_bi1, ii_leT, ii_leF, ii_ltT, ii_ltF, ii_eqF, ii_m1F, ↓cb_2 hC, ↓cb_1 hC, ↓cb_3 hC, ↓cb_4 hC, ↓cb_5 hC, ↓cb_6 hC, ↓cb_7 hC, ↓cb_10 hC, ↓cb_17 hC, ↓cb_18 hC, ↓cb_19 hC, ↓cb_20 hC, ↓cb_21 hC, ↓cb_22 hC, ↓cb_23 hC, ↓cb_8 hC, ↓cb_9 hC, ↓cb_24 hC, ↓cb_16 hC, ↓cb29_0 hC, ↓cb29_1 hC, ↓sb_0 hS, ↓sb1_0 hS, ↓sb1_1 hS, ↓sb1_2 hS, ↓sb_1 hS, ↓sb_2 hS, ↓sb_3 hS, ↓sb_4 hS, ↓sb_5 hS, ↓sb_6 hS, ↓sb_7 hS, hC, hS, ↓bn_of (c_i0_1 x), q1, hk9, hk0, ↓bn_of e, ne_eq, q2, not_false_eq_true]
        exact e2
      · rintro q ⟨I2, w⟩ f hf t2
        have inner := loop_rel (fun q' (p : xI × (Nat → Int64)) ch => fX0_post_b47 nf (fX0_post_b34 nf T N R q) T N R q' p.1 (sL L (c + 31) p.2) c x (ii (rngF (bsS 1000000 P k) f 0 (1000000, -1)).1) (rngF (bsS 1000000 P k) f 0 (1000000, -1)).2 (ii f) (ii (lsN 1000000 P f ch)) (ii ch)) (fun _ p => tr c J p.1) k (fun p => fX0_post_b34 nf T N R q p.1 (sL L (c + 31) p.2) c x (ii (rngF (bsS 1000000 P k) (f + 1) 0 (1000000, -1)).1) (rngF (bsS 1000000 P k) (f + 1) 0 (1000000, -1)).2 (ii (f + 1))) ?_ ?_ k 0 (I2, w) nf (by omega) (by omega) t2
        · obtain ⟨⟨I3, w3⟩, e3, t3⟩ := inner
          refine ⟨(I3, w3), ?_, t3⟩
          refine Eq.trans ?_ e3
          show fX0_post_b34 nf T N R (q + 1) I2 (sL L (c + 31) w) c x _ _ (ii f) = _
          rw [fX0_post_b34]
          simp (disch := omega) only [↓nm_v, ↓tg, ↓rA, ↓chk_if, ↓reduceIte, inb_ii, ii_nat, ii_add, and_self, bi_zb, if_bi, if_bi1, ii_leT, ii_leF, ii_ltT, ii_ltF, ii_eqF, ii_m1F, ↓cb_2 hC, ↓cb_1 hC, ↓cb_3 hC, ↓cb_4 hC, ↓cb_5 hC, ↓cb_6 hC, ↓cb_7 hC, ↓cb_10 hC, ↓cb_17 hC, ↓cb_18 hC, ↓cb_19 hC, ↓cb_20 hC, ↓cb_21 hC, ↓cb_22 hC, ↓cb_23 hC, ↓cb_8 hC, ↓cb_9 hC, ↓cb_24 hC, ↓cb_16 hC, ↓cb29_0 hC, ↓cb29_1 hC, ↓sb_0 hS, ↓sb1_0 hS, ↓sb1_1 hS, ↓sb1_2 hS, ↓sb_1 hS, ↓sb_2 hS, ↓sb_3 hS, ↓sb_4 hS, ↓sb_5 hS, ↓sb_6 hS, ↓sb_7 hS, hC, hS]
          rfl
        · rintro q' ⟨I3, w3⟩ ch hch t3
          obtain ⟨I4, w4, e4, t4⟩ := one I3 w3 f ch t3 hf hch
          refine ⟨(I4, w4), ?_, t4⟩
          have hk3 := hkk I3 t3
          have l1 := (ls_le P f ch).1
          have l2 := fd_le 1000000 (P f ch) (by omega)
          have e1 : lsN 1000000 P f (ch + 1) = max (lsN 1000000 P f ch) (fdN 1000000 (P f ch)) := rngF_s _ _ _
          have emx : (if ii (lsN 1000000 P f ch) < ii (fdN 1000000 (P f ch)) then ii (fdN 1000000 (P f ch)) else ii (lsN 1000000 P f ch)) = ii (lsN 1000000 P f (ch + 1)) := by
            rw [e1]
            by_cases z : lsN 1000000 P f ch < fdN 1000000 (P f ch)
            · rw [if_pos ((ii_lt (by omega) (by omega)).mpr z), show max (lsN 1000000 P f ch) (fdN 1000000 (P f ch)) = fdN 1000000 (P f ch) by omega]
            · rw [if_neg (fun h => z ((ii_lt (by omega) (by omega)).mp h)), show max (lsN 1000000 P f ch) (fdN 1000000 (P f ch)) = lsN 1000000 P f ch by omega]
          show fX0_post_b47 nf (fX0_post_b34 nf T N R q) T N R (q' + 1) I3 (sL L (c + 31) w3) c x _ _ (ii f) (ii (lsN 1000000 P f ch)) (ii ch) = _
          rw [fX0_post_b47]
          simp (disch := omega) only [↓nm_v, ↓tg, ↓rA, ↓chk_if, ↓reduceIte, inb_ii, ii_nat, ii_add, and_self, bi_zb, if_bi, if_bi1, ii_leT, ii_leF, ii_ltT, ii_ltF, ii_eqF, ii_m1F, ↓cb_2 hC, ↓cb_1 hC, ↓cb_3 hC, ↓cb_4 hC, ↓cb_5 hC, ↓cb_6 hC, ↓cb_7 hC, ↓cb_10 hC, ↓cb_17 hC, ↓cb_18 hC, ↓cb_19 hC, ↓cb_20 hC, ↓cb_21 hC, ↓cb_22 hC, ↓cb_23 hC, ↓cb_8 hC, ↓cb_9 hC, ↓cb_24 hC, ↓cb_16 hC, ↓cb29_0 hC, ↓cb29_1 hC, ↓sb_0 hS, ↓sb1_0 hS, ↓sb1_1 hS, ↓sb1_2 hS, ↓sb_1 hS, ↓sb_2 hS, ↓sb_3 hS, ↓sb_4 hS, ↓sb_5 hS, ↓sb_6 hS, ↓sb_7 hS, hC, hS, hk3, ↓b3_of e4, emx]
        · rintro q' ⟨I3, w3⟩ t3
          have hk3 := hkk I3 t3
          have l1 := (ls_le P f k).1
          have hp1 : (rngF (bsS 1000000 P k) f 0 (1000000, -1)).1 ≤ 1000000 := by
            rcases bs_two P k f with ⟨z, _⟩ | ⟨a, b, ha, _, z, _⟩
            · rw [z]; exact Nat.le_refl _
            · rw [z]; show a ≤ 1000000; omega
          show fX0_post_b47 nf (fX0_post_b34 nf T N R q) T N R (q' + 1) I3 (sL L (c + 31) w3) c x _ _ (ii f) (ii (lsN 1000000 P f k)) (ii k) = fX0_post_b34 nf T N R q I3 (sL L (c + 31) w3) c x (ii (rngF (bsS 1000000 P k) (f + 1) 0 (1000000, -1)).1) (rngF (bsS 1000000 P k) (f + 1) 0 (1000000, -1)).2 (ii (f + 1))
          rw [fX0_post_b47, rngF_s (bsS 1000000 P k)]
          generalize rngF (bsS 1000000 P k) f 0 (1000000, -1) = p at hp1 ⊢
          unfold bsS
          by_cases z : lsN 1000000 P f k < p.1
          · simp (disch := omega) only [↓nm_v, ↓tg, ↓rA, ↓chk_if, ↓reduceIte, inb_ii, ii_nat, ii_add, and_self, bi_zb, if_bi, if_bi1, ii_leT, ii_leF, ii_ltT, ii_ltF, ii_eqF, ii_m1F, ↓cb_2 hC, ↓cb_1 hC, ↓cb_3 hC, ↓cb_4 hC, ↓cb_5 hC, ↓cb_6 hC, ↓cb_7 hC, ↓cb_10 hC, ↓cb_17 hC, ↓cb_18 hC, ↓cb_19 hC, ↓cb_20 hC, ↓cb_21 hC, ↓cb_22 hC, ↓cb_23 hC, ↓cb_8 hC, ↓cb_9 hC, ↓cb_24 hC, ↓cb_16 hC, ↓cb29_0 hC, ↓cb29_1 hC, ↓sb_0 hS, ↓sb1_0 hS, ↓sb1_1 hS, ↓sb1_2 hS, ↓sb_1 hS, ↓sb_2 hS, ↓sb_3 hS, ↓sb_4 hS, ↓sb_5 hS, ↓sb_6 hS, ↓sb_7 hS, hC, hS, hk3, z]
          · simp (disch := omega) only [↓nm_v, ↓tg, ↓rA, ↓chk_if, ↓reduceIte, inb_ii, ii_nat, ii_add, and_self, bi_zb, if_bi, if_bi1, ii_leT, ii_leF, ii_ltT, ii_ltF, ii_eqF, ii_m1F, ↓cb_2 hC, ↓cb_1 hC, ↓cb_3 hC, ↓cb_4 hC, ↓cb_5 hC, ↓cb_6 hC, ↓cb_7 hC, ↓cb_10 hC, ↓cb_17 hC, ↓cb_18 hC, ↓cb_19 hC, ↓cb_20 hC, ↓cb_21 hC, ↓cb_22 hC, ↓cb_23 hC, ↓cb_8 hC, ↓cb_9 hC, ↓cb_24 hC, ↓cb_16 hC, ↓cb29_0 hC, ↓cb29_1 hC, ↓sb_0 hS, ↓sb1_0 hS, ↓sb1_1 hS, ↓sb1_2 hS, ↓sb_1 hS, ↓sb_2 hS, ↓sb_3 hS, ↓sb_4 hS, ↓sb_5 hS, ↓sb_6 hS, ↓sb_7 hS, hC, hS, hk3, z]
      · rintro q ⟨I2, w⟩ t2
        show fX0_post_b34 nf T N R (q + 1) I2 (sL L (c + 31) w) c x (ii (bsN 1000000 P k).1) (bsN 1000000 P k).2 (ii 8) = _
        rw [fX0_post_b34]
        by_cases z : (bsN 1000000 P k).2 = -1
        · simp (disch := omega) only [↓nm_v, ↓tg, ↓rA, ↓chk_if, ↓reduceIte, inb_ii, ii_nat, ii_add, and_self, bi_zb, if_bi, if_bi1, ii_leT, ii_leF, ii_ltT, ii_ltF, ii_eqF, ii_m1F, ↓cb_2 hC, ↓cb_1 hC, ↓cb_3 hC, ↓cb_4 hC, ↓cb_5 hC, ↓cb_6 hC, ↓cb_7 hC, ↓cb_10 hC, ↓cb_17 hC, ↓cb_18 hC, ↓cb_19 hC, ↓cb_20 hC, ↓cb_21 hC, ↓cb_22 hC, ↓cb_23 hC, ↓cb_8 hC, ↓cb_9 hC, ↓cb_24 hC, ↓cb_16 hC, ↓cb29_0 hC, ↓cb29_1 hC, ↓sb_0 hS, ↓sb1_0 hS, ↓sb1_1 hS, ↓sb1_2 hS, ↓sb_1 hS, ↓sb_2 hS, ↓sb_3 hS, ↓sb_4 hS, ↓sb_5 hS, ↓sb_6 hS, ↓sb_7 hS, hC, hS, z]
        · by_cases z2 : x = ii 0
          · simp (disch := omega) only [↓nm_v, ↓tg, ↓rA, ↓chk_if, ↓reduceIte, inb_ii, ii_nat, ii_add, and_self, bi_zb, if_bi, if_bi1, ii_leT, ii_leF, ii_ltT, ii_ltF, ii_eqF, ii_m1F, ↓cb_2 hC, ↓cb_1 hC, ↓cb_3 hC, ↓cb_4 hC, ↓cb_5 hC, ↓cb_6 hC, ↓cb_7 hC, ↓cb_10 hC, ↓cb_17 hC, ↓cb_18 hC, ↓cb_19 hC, ↓cb_20 hC, ↓cb_21 hC, ↓cb_22 hC, ↓cb_23 hC, ↓cb_8 hC, ↓cb_9 hC, ↓cb_24 hC, ↓cb_16 hC, ↓cb29_0 hC, ↓cb29_1 hC, ↓sb_0 hS, ↓sb1_0 hS, ↓sb1_1 hS, ↓sb1_2 hS, ↓sb_1 hS, ↓sb_2 hS, ↓sb_3 hS, ↓sb_4 hS, ↓sb_5 hS, ↓sb_6 hS, ↓sb_7 hS, hC, hS, z, z2]
          · simp (disch := omega) only [↓nm_v, ↓tg, ↓rA, ↓chk_if, ↓reduceIte, inb_ii, ii_nat, ii_add, and_self, bi_zb, if_bi, if_bi1, ii_leT, ii_leF, ii_ltT, ii_ltF, ii_eqF, ii_m1F, ↓cb_2 hC, ↓cb_1 hC, ↓cb_3 hC, ↓cb_4 hC, ↓cb_5 hC, ↓cb_6 hC, ↓cb_7 hC, ↓cb_10 hC, ↓cb_17 hC, ↓cb_18 hC, ↓cb_19 hC, ↓cb_20 hC, ↓cb_21 hC, ↓cb_22 hC, ↓cb_23 hC, ↓cb_8 hC, ↓cb_9 hC, ↓cb_24 hC, ↓cb_16 hC, ↓cb29_0 hC, ↓cb29_1 hC, ↓sb_0 hS, ↓sb1_0 hS, ↓sb1_1 hS, ↓sb1_2 hS, ↓sb_1 hS, ↓sb_2 hS, ↓sb_3 hS, ↓sb_4 hS, ↓sb_5 hS, ↓sb_6 hS, ↓sb_7 hS, hC, hS, z, z2]
theorem m_post (M : ME nf m D T N R tx g I) (ho : rOK g n k H) (hH : H ≤ 1000) (hnf : 70 < nf) (x : Int32) :
    ∃ I' L', fX5_post nf T N I L R m x = some (postA D n k g x, I', L') ∧ mT m I I' L L' := by
  obtain ⟨h1, h2, hM, hh⟩ := id M
  have hk := ho.1.2.2.2
  have hh0 := mH_u hh (ii 0)
  have hk1 : uI I m 0 (ii 0) (m + 2) 1 = ii k := by rw [hh0.1]; exact ho.1.2.2.1
  have hP := GrP_of ho
  unfold fX5_post postA
  cases q1 : rg x 0 1 with
  | false =>
    refine ⟨uI I m 0 (ii 0), L, ?_, mT_0 _ _ _ _⟩
    simp (disch := omega) only [↓nm_v, ↓tg, ↓rA, ↓chk_if, ↓reduceIte, inb_ii, ii_nat, ii_add, and_self, bi_zb, if_bi, if_bi1, ii_leT, ii_leF, ii_ltT, ii_ltF, ii_eqF, ii_m1F, ↓mb_2 hM, ↓mb_3 hM, ↓mb_4 hM, ↓mb_5 hM, ↓mb_6 hM, ↓mb_7 hM, ↓mb_9 hM, ↓mb_10 hM, ↓mb_12 hM, ↓mb_22 hM, ↓mb_24 hM, ↓mb_25 hM, ↓mb_27 hM, ↓mb_28 hM, ↓mb_31 hM, ↓mb_32 hM, ↓mb_33 hM, ↓mb_35 hM, ↓mb_36 hM, ↓mb_37 hM, ↓mb_41 hM, ↓mb_42 hM, ↓mb_43 hM, ↓mb_44 hM, ↓mb_45 hM, ↓mb_46 hM, ↓mb_47 hM, ↓mb_48 hM, ↓mb_49 hM, ↓mb_55 hM, hM, ↓bn_of (m_i0_1 x), q1, Bool.false_eq_true, false_and]
  | true =>
    by_cases q2 : k = 0
    · subst q2
      refine ⟨uI I m 0 (ii 0), L, ?_, mT_0 _ _ _ _⟩
      simp (disch := omega) only [↓nm_v, ↓tg, ↓rA, ↓chk_if, ↓reduceIte, inb_ii, ii_nat, ii_add, and_self, bi_zb, if_bi, if_bi1, ii_leT, ii_leF, ii_ltT, ii_ltF, ii_eqF, ii_m1F, ↓mb_2 hM, ↓mb_3 hM, ↓mb_4 hM, ↓mb_5 hM, ↓mb_6 hM, ↓mb_7 hM, ↓mb_9 hM, ↓mb_10 hM, ↓mb_12 hM, ↓mb_22 hM, ↓mb_24 hM, ↓mb_25 hM, ↓mb_27 hM, ↓mb_28 hM, ↓mb_31 hM, ↓mb_32 hM, ↓mb_33 hM, ↓mb_35 hM, ↓mb_36 hM, ↓mb_37 hM, ↓mb_41 hM, ↓mb_42 hM, ↓mb_43 hM, ↓mb_44 hM, ↓mb_45 hM, ↓mb_46 hM, ↓mb_47 hM, ↓mb_48 hM, ↓mb_49 hM, ↓mb_55 hM, hM, ↓bn_of (m_i0_1 x), q1, hk1]
      rfl
    · obtain ⟨v, e, hv⟩ := m_layFar hM (GrM_of hh0.1 ho) hP hnf
      have hh1 := mH_22 hh0 v
      have hx1 : arN 64 (sI (uI I m 0 (ii 0)) (m + 22) v (m + 22)) (fFar 100000000 g n) := by rw [sI_at]; exact hv
      have t1 := mT_trans (mT_0 m I L (ii 0)) (mT_22 m (uI I m 0 (ii 0)) L v)
      have h2' := fw_two (F := 1000000) (G := 100000000) (by omega) (by omega) hP.2.1 hP.2.2.1 hP.2.2.2.1 hP.2.2.2.2
      generalize hJ : sI (uI I m 0 (ii 0)) (m + 22) v = J at hh1 hx1 e t1
      have hPq : ∀ f ch, f < 8 → ch < k → fnd (fdP (fFar 100000000 g n) D n k g f ch) 61 0 = fnd (fdP (fFar 1000000 g n) D n k g f ch) 61 0 := fun f ch hf hch => (fdP_two (Fd := fFar 1000000 g n) (Fe := fFar 100000000 g n) (D := D) h2' ho hH hf hch).symm
      generalize hPP : (fun f ch => fnd (fdP (fFar 1000000 g n) D n k g f ch) 61 0) = P
      have one : ∀ (I2 : xI) (L2 : xL) (f ch : Nat), (mT m J I2 L L2 ∧ I2 (m + 22) = J (m + 22)) → f < 8 → ch < k → ∃ I3 L3, fX5_foundAt nf T N I2 L2 R m (ii f) (ii ch) = some (ii (fdN 100000000 (P f ch)), I3, L3) ∧ (mT m J I3 L L3 ∧ I3 (m + 22) = J (m + 22)) := by
        rintro I2 L2 f ch ⟨t2, t2'⟩ hf hch
        obtain ⟨I3, L3, e3, t3, t3'⟩ := m_foundAt (I := I2) (L := L2) (Fd := fFar 100000000 g n) ⟨h1, h2, hM, mH_T hh1 t2⟩ ho hH hnf (by rw [t2']; exact hx1) (fw_le64 (fwK 100000000 hP).1) hf hch
        refine ⟨I3, L3, ?_, mT_trans t2 t3, t3'.trans t2'⟩
        rw [hPq f ch hf hch] at e3
        rw [← hPP]
        exact e3
      have hkk : ∀ I2 L2, mT m J I2 L L2 → I2 (m + 2) 1 = ii k := by
        intro I2 L2 t2
        rw [(mH_T hh1 t2).1]
        exact ho.1.2.2.1
      have outer := loop_rel (fun q (p : xI × xL) f => fX5_post_b39 nf T N R q p.1 p.2 m x (ii (rngF (bsS 100000000 P k) f 0 (100000000, -1)).1) (rngF (bsS 100000000 P k) f 0 (100000000, -1)).2 (ii f)) (fun _ p => mT m J p.1 L p.2 ∧ p.1 (m + 22) = J (m + 22)) 8 (fun p => some (if (bsN 100000000 P k).2 = -1 then -1 else if x = ii 0 then (bsN 100000000 P k).2 else ii (bsN 100000000 P k).1, p.1, p.2)) ?_ ?_ 8 0 (J, L) nf (by omega) (by omega) ⟨⟨fun _ _ _ _ _ => rfl, fun _ _ _ _ => rfl, fun _ _ => rfl, fun _ _ _ _ => rfl, fun _ _ _ => rfl⟩, rfl⟩
      · obtain ⟨⟨I2, L2⟩, e2, t2, _⟩ := outer
        refine ⟨I2, L2, ?_, mT_trans t1 t2⟩
        have hk0 : (ii k = ii 0) = False := eq_false (fun h => q2 ((ii_eq (by omega) (by omega)).mp h))
        simp (disch := omega) only [↓nm_v, ↓tg, ↓rA, ↓chk_if, ↓reduceIte, inb_ii, ii_nat, ii_add, and_self, bi_zb, if_bi, if_bi1, ii_leT, ii_leF, ii_ltT, ii_ltF, ii_eqF, ii_m1F, ↓mb_2 hM, ↓mb_3 hM, ↓mb_4 hM, ↓mb_5 hM, ↓mb_6 hM, ↓mb_7 hM, ↓mb_9 hM, ↓mb_10 hM, ↓mb_12 hM, ↓mb_22 hM, ↓mb_24 hM, ↓mb_25 hM, ↓mb_27 hM, ↓mb_28 hM, ↓mb_31 hM, ↓mb_32 hM, ↓mb_33 hM, ↓mb_35 hM, ↓mb_36 hM, ↓mb_37 hM, ↓mb_41 hM, ↓mb_42 hM, ↓mb_43 hM, ↓mb_44 hM, ↓mb_45 hM, ↓mb_46 hM, ↓mb_47 hM, ↓mb_48 hM, ↓mb_49 hM, ↓mb_55 hM, hM, ↓bn_of (m_i0_1 x), q1, hk1, hk0, ↓bn_of e, ne_eq, q2, not_false_eq_true]
        refine e2.trans ?_
        rcases bs_two P k 8 with ⟨z1, z2⟩ | ⟨a, b, ha, hb, z1, z2⟩
        · unfold bsN
          rw [z1, z2]
          rfl
        · unfold bsN
          rw [z1, z2]
      · rintro q ⟨I2, L2⟩ f hf t2
        have inner := loop_rel (fun q' (p : xI × xL) ch => fX5_post_b52 nf (fX5_post_b39 nf T N R q) T N R q' p.1 p.2 m x (ii (rngF (bsS 100000000 P k) f 0 (100000000, -1)).1) (rngF (bsS 100000000 P k) f 0 (100000000, -1)).2 (ii f) (ii (lsN 100000000 P f ch)) (ii ch)) (fun _ p => mT m J p.1 L p.2 ∧ p.1 (m + 22) = J (m + 22)) k (fun p => fX5_post_b39 nf T N R q p.1 p.2 m x (ii (rngF (bsS 100000000 P k) (f + 1) 0 (100000000, -1)).1) (rngF (bsS 100000000 P k) (f + 1) 0 (100000000, -1)).2 (ii (f + 1))) ?_ ?_ k 0 (I2, L2) nf (by omega) (by omega) t2
        · obtain ⟨⟨I3, L3⟩, e3, t3⟩ := inner
          refine ⟨(I3, L3), ?_, t3⟩
          refine Eq.trans ?_ e3
          show fX5_post_b39 nf T N R (q + 1) I2 L2 m x _ _ (ii f) = _
          rw [fX5_post_b39]
          simp (disch := omega) only [↓nm_v, ↓tg, ↓rA, ↓chk_if, ↓reduceIte, inb_ii, ii_nat, ii_add, and_self, bi_zb, if_bi, if_bi1, ii_leT, ii_leF, ii_ltT, ii_ltF, ii_eqF, ii_m1F, ↓mb_2 hM, ↓mb_3 hM, ↓mb_4 hM, ↓mb_5 hM, ↓mb_6 hM, ↓mb_7 hM, ↓mb_9 hM, ↓mb_10 hM, ↓mb_12 hM, ↓mb_22 hM, ↓mb_24 hM, ↓mb_25 hM, ↓mb_27 hM, ↓mb_28 hM, ↓mb_31 hM, ↓mb_32 hM, ↓mb_33 hM, ↓mb_35 hM, ↓mb_36 hM, ↓mb_37 hM, ↓mb_41 hM, ↓mb_42 hM, ↓mb_43 hM, ↓mb_44 hM, ↓mb_45 hM, ↓mb_46 hM, ↓mb_47 hM, ↓mb_48 hM, ↓mb_49 hM, ↓mb_55 hM, hM]
          rfl
        · rintro q' ⟨I3, L3⟩ ch hch t3
          obtain ⟨I4, L4, e4, t4⟩ := one I3 L3 f ch t3 hf hch
          refine ⟨(I4, L4), ?_, t4⟩
          have hk3 := hkk I3 L3 t3.1
          have l1 := (ls_le P f ch).2
          have l2 := fd_le 100000000 (P f ch) (by omega)
          have e1 : lsN 100000000 P f (ch + 1) = max (lsN 100000000 P f ch) (fdN 100000000 (P f ch)) := rngF_s _ _ _
          show fX5_post_b52 nf (fX5_post_b39 nf T N R q) T N R (q' + 1) I3 L3 m x _ _ (ii f) (ii (lsN 100000000 P f ch)) (ii ch) = fX5_post_b52 nf (fX5_post_b39 nf T N R q) T N R q' I4 L4 m x _ _ (ii f) (ii (lsN 100000000 P f (ch + 1))) (ii (ch + 1))
          rw [fX5_post_b52, e1]
          by_cases z : fdN 100000000 (P f ch) ≤ lsN 100000000 P f ch
          · rw [show max (lsN 100000000 P f ch) (fdN 100000000 (P f ch)) = lsN 100000000 P f ch by omega]
            simp (disch := omega) only [↓nm_v, ↓tg, ↓rA, ↓chk_if, ↓reduceIte, inb_ii, ii_nat, ii_add, and_self, bi_zb, if_bi, if_bi1, ii_leT, ii_leF, ii_ltT, ii_ltF, ii_eqF, ii_m1F, ↓mb_2 hM, ↓mb_3 hM, ↓mb_4 hM, ↓mb_5 hM, ↓mb_6 hM, ↓mb_7 hM, ↓mb_9 hM, ↓mb_10 hM, ↓mb_12 hM, ↓mb_22 hM, ↓mb_24 hM, ↓mb_25 hM, ↓mb_27 hM, ↓mb_28 hM, ↓mb_31 hM, ↓mb_32 hM, ↓mb_33 hM, ↓mb_35 hM, ↓mb_36 hM, ↓mb_37 hM, ↓mb_41 hM, ↓mb_42 hM, ↓mb_43 hM, ↓mb_44 hM, ↓mb_45 hM, ↓mb_46 hM, ↓mb_47 hM, ↓mb_48 hM, ↓mb_49 hM, ↓mb_55 hM, hM, hk3, ↓b3_of e4]
          · rw [show max (lsN 100000000 P f ch) (fdN 100000000 (P f ch)) = fdN 100000000 (P f ch) by omega]
            simp (disch := omega) only [↓nm_v, ↓tg, ↓rA, ↓chk_if, ↓reduceIte, inb_ii, ii_nat, ii_add, and_self, bi_zb, if_bi, if_bi1, ii_leT, ii_leF, ii_ltT, ii_ltF, ii_eqF, ii_m1F, ↓mb_2 hM, ↓mb_3 hM, ↓mb_4 hM, ↓mb_5 hM, ↓mb_6 hM, ↓mb_7 hM, ↓mb_9 hM, ↓mb_10 hM, ↓mb_12 hM, ↓mb_22 hM, ↓mb_24 hM, ↓mb_25 hM, ↓mb_27 hM, ↓mb_28 hM, ↓mb_31 hM, ↓mb_32 hM, ↓mb_33 hM, ↓mb_35 hM, ↓mb_36 hM, ↓mb_37 hM, ↓mb_41 hM, ↓mb_42 hM, ↓mb_43 hM, ↓mb_44 hM, ↓mb_45 hM, ↓mb_46 hM, ↓mb_47 hM, ↓mb_48 hM, ↓mb_49 hM, ↓mb_55 hM, hM, hk3, ↓b3_of e4]
        · rintro q' ⟨I3, L3⟩ t3
          have hk3 := hkk I3 L3 t3.1
          have l1 := (ls_le P f k).2
          have hp1 : (rngF (bsS 100000000 P k) f 0 (100000000, -1)).1 ≤ 100000000 := by
            rcases bs_two P k f with ⟨_, z⟩ | ⟨a, b, ha, _, _, z⟩
            · rw [z]; exact Nat.le_refl _
            · rw [z]; show a ≤ 100000000; omega
          show fX5_post_b52 nf (fX5_post_b39 nf T N R q) T N R (q' + 1) I3 L3 m x _ _ (ii f) (ii (lsN 100000000 P f k)) (ii k) = fX5_post_b39 nf T N R q I3 L3 m x (ii (rngF (bsS 100000000 P k) (f + 1) 0 (100000000, -1)).1) (rngF (bsS 100000000 P k) (f + 1) 0 (100000000, -1)).2 (ii (f + 1))
          rw [fX5_post_b52, rngF_s (bsS 100000000 P k)]
          generalize rngF (bsS 100000000 P k) f 0 (100000000, -1) = p at hp1 ⊢
          unfold bsS
          by_cases z : lsN 100000000 P f k < p.1
          · simp (disch := omega) only [↓nm_v, ↓tg, ↓rA, ↓chk_if, ↓reduceIte, inb_ii, ii_nat, ii_add, and_self, bi_zb, if_bi, if_bi1, ii_leT, ii_leF, ii_ltT, ii_ltF, ii_eqF, ii_m1F, ↓mb_2 hM, ↓mb_3 hM, ↓mb_4 hM, ↓mb_5 hM, ↓mb_6 hM, ↓mb_7 hM, ↓mb_9 hM, ↓mb_10 hM, ↓mb_12 hM, ↓mb_22 hM, ↓mb_24 hM, ↓mb_25 hM, ↓mb_27 hM, ↓mb_28 hM, ↓mb_31 hM, ↓mb_32 hM, ↓mb_33 hM, ↓mb_35 hM, ↓mb_36 hM, ↓mb_37 hM, ↓mb_41 hM, ↓mb_42 hM, ↓mb_43 hM, ↓mb_44 hM, ↓mb_45 hM, ↓mb_46 hM, ↓mb_47 hM, ↓mb_48 hM, ↓mb_49 hM, ↓mb_55 hM, hM, fX5_post_b107, hk3, z]
          · simp (disch := omega) only [↓nm_v, ↓tg, ↓rA, ↓chk_if, ↓reduceIte, inb_ii, ii_nat, ii_add, and_self, bi_zb, if_bi, if_bi1, ii_leT, ii_leF, ii_ltT, ii_ltF, ii_eqF, ii_m1F, ↓mb_2 hM, ↓mb_3 hM, ↓mb_4 hM, ↓mb_5 hM, ↓mb_6 hM, ↓mb_7 hM, ↓mb_9 hM, ↓mb_10 hM, ↓mb_12 hM, ↓mb_22 hM, ↓mb_24 hM, ↓mb_25 hM, ↓mb_27 hM, ↓mb_28 hM, ↓mb_31 hM, ↓mb_32 hM, ↓mb_33 hM, ↓mb_35 hM, ↓mb_36 hM, ↓mb_37 hM, ↓mb_41 hM, ↓mb_42 hM, ↓mb_43 hM, ↓mb_44 hM, ↓mb_45 hM, ↓mb_46 hM, ↓mb_47 hM, ↓mb_48 hM, ↓mb_49 hM, ↓mb_55 hM, hM, fX5_post_b107, hk3, z]
      · rintro q ⟨I2, L2⟩ t2
        show fX5_post_b39 nf T N R (q + 1) I2 L2 m x (ii (bsN 100000000 P k).1) (bsN 100000000 P k).2 (ii 8) = _
        rw [fX5_post_b39]
        by_cases z : (bsN 100000000 P k).2 = -1
        · simp (disch := omega) only [↓nm_v, ↓tg, ↓rA, ↓chk_if, ↓reduceIte, inb_ii, ii_nat, ii_add, and_self, bi_zb, if_bi, if_bi1, ii_leT, ii_leF, ii_ltT, ii_ltF, ii_eqF, ii_m1F, ↓mb_2 hM, ↓mb_3 hM, ↓mb_4 hM, ↓mb_5 hM, ↓mb_6 hM, ↓mb_7 hM, ↓mb_9 hM, ↓mb_10 hM, ↓mb_12 hM, ↓mb_22 hM, ↓mb_24 hM, ↓mb_25 hM, ↓mb_27 hM, ↓mb_28 hM, ↓mb_31 hM, ↓mb_32 hM, ↓mb_33 hM, ↓mb_35 hM, ↓mb_36 hM, ↓mb_37 hM, ↓mb_41 hM, ↓mb_42 hM, ↓mb_43 hM, ↓mb_44 hM, ↓mb_45 hM, ↓mb_46 hM, ↓mb_47 hM, ↓mb_48 hM, ↓mb_49 hM, ↓mb_55 hM, hM, z]
        · by_cases z2 : x = ii 0
          · simp (disch := omega) only [↓nm_v, ↓tg, ↓rA, ↓chk_if, ↓reduceIte, inb_ii, ii_nat, ii_add, and_self, bi_zb, if_bi, if_bi1, ii_leT, ii_leF, ii_ltT, ii_ltF, ii_eqF, ii_m1F, ↓mb_2 hM, ↓mb_3 hM, ↓mb_4 hM, ↓mb_5 hM, ↓mb_6 hM, ↓mb_7 hM, ↓mb_9 hM, ↓mb_10 hM, ↓mb_12 hM, ↓mb_22 hM, ↓mb_24 hM, ↓mb_25 hM, ↓mb_27 hM, ↓mb_28 hM, ↓mb_31 hM, ↓mb_32 hM, ↓mb_33 hM, ↓mb_35 hM, ↓mb_36 hM, ↓mb_37 hM, ↓mb_41 hM, ↓mb_42 hM, ↓mb_43 hM, ↓mb_44 hM, ↓mb_45 hM, ↓mb_46 hM, ↓mb_47 hM, ↓mb_48 hM, ↓mb_49 hM, ↓mb_55 hM, hM, z, z2]
          · simp (disch := omega) only [↓nm_v, ↓tg, ↓rA, ↓chk_if, ↓reduceIte, inb_ii, ii_nat, ii_add, and_self, bi_zb, if_bi, if_bi1, ii_leT, ii_leF, ii_ltT, ii_ltF, ii_eqF, ii_m1F, ↓mb_2 hM, ↓mb_3 hM, ↓mb_4 hM, ↓mb_5 hM, ↓mb_6 hM, ↓mb_7 hM, ↓mb_9 hM, ↓mb_10 hM, ↓mb_12 hM, ↓mb_22 hM, ↓mb_24 hM, ↓mb_25 hM, ↓mb_27 hM, ↓mb_28 hM, ↓mb_31 hM, ↓mb_32 hM, ↓mb_33 hM, ↓mb_35 hM, ↓mb_36 hM, ↓mb_37 hM, ↓mb_41 hM, ↓mb_42 hM, ↓mb_43 hM, ↓mb_44 hM, ↓mb_45 hM, ↓mb_46 hM, ↓mb_47 hM, ↓mb_48 hM, ↓mb_49 hM, ↓mb_55 hM, hM, z, z2]
end
