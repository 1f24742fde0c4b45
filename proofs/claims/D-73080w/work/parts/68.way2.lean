/-! PLAIN LAND, 18: ways by names heard: the model, and what gone answers -/
section
variable {T N : xT} {R : xR} {I : xI} {c s m n nf hh : Nat} {A B W : Nat → Nat} {Nm Hd : Nat → Int32}
theorem m_ways5 (hM : MSh m T N R) (hG : GrM I m n A B W) (hP : GrP n A B W) (hN : ∀ l, l < n → I (m + 2) (8 + l) = Nm l) (hnf : 70 < nf) (kk : xI → Nat → Int32 → Option (Int32 × xI)) {k : Nat} (hk : k < 6) {nm : Int32} (hnm : I (m + 2) (70 + k) = nm) {on : Nat → Bool} (ho : ∀ l, l < n → on l = decide (Nm l = nm)) {x y : Nat → Int32} {v : Nat → Nat} (hx : arN 8 x v) (hy : arN 8 y (fun _ => 0)) :
    ∃ y', fX5_goneFrom_b65 nf kk T N R nf (sI (sI I (m + 23) x) (m + 24) y) m (ii k) (ii 0) = fX5_goneFrom_b166 nf kk T N R nf (sI (sI I (m + 23) x) (m + 24) y') m (ii k) (ii 0) ∧ arN 8 y' (wyT A B on n v) := by
  obtain ⟨hn, hA, hB, hne, _⟩ := hP
  refine loop_rel (fun q y l => fX5_goneFrom_b65 nf kk T N R q (sI (sI I (m + 23) x) (m + 24) y) m (ii k) (ii l)) (fun l y => arN 8 y (rngF (wyS A B on v) l 0 (fun _ => 0))) n (fun y => fX5_goneFrom_b166 nf kk T N R nf (sI (sI I (m + 23) x) (m + 24) y) m (ii k) (ii 0)) ?_ ?_ n 0 y nf (by omega) (by omega) hy
  · intro q y l hl hy
    have a1 := hA l hl
    have a2 := hB l hl
    have a3 := hne l hl
    have e1 := hy (B l) a2
    have e2 := hy (A l) a1
    have e3 := hx (A l) a1
    have e4 := hx (B l) a2
    have e5 := hN l hl
    by_cases h : Nm l = nm
    · refine ⟨upd (upd y (B l) (ii (rngF (wyS A B on v) l 0 (fun _ => 0) (B l) + v (A l)))) (A l) (ii (rngF (wyS A B on v) l 0 (fun _ => 0) (A l) + v (B l))), ?_, ?_⟩
      · show fX5_goneFrom_b65 nf kk T N R (q + 1) (sI (sI I (m + 23) x) (m + 24) y) m (ii k) (ii l) = _
        rw [fX5_goneFrom_b65]
        generalize rngF (wyS A B on v) l 0 (fun _ => 0) = d at e1 e2 ⊢
        simp (disch := omega) only [↓nm_v, ↓tg, ↓rA, ↓chk_if, ↓reduceIte, inb_ii, ii_nat, ii_add, and_self, bi_zb, if_bi, if_bi1, ii_leT, ii_leF, ii_ltT, ii_ltF, ii_eqF, ii_m1F, ↓mb_2 hM, ↓mb_3 hM, ↓mb_4 hM, ↓mb_5 hM, ↓mb_6 hM, ↓mb_7 hM, ↓mb_9 hM, ↓mb_10 hM, ↓mb_12 hM, ↓mb_22 hM, ↓mb_24 hM, ↓mb_25 hM, ↓mb_27 hM, ↓mb_28 hM, ↓mb_31 hM, ↓mb_32 hM, ↓mb_33 hM, ↓mb_35 hM, ↓mb_36 hM, ↓mb_37 hM, ↓mb_41 hM, ↓mb_42 hM, ↓mb_43 hM, ↓mb_44 hM, ↓mb_45 hM, ↓mb_46 hM, ↓mb_47 hM, ↓mb_48 hM, ↓mb_49 hM, ↓mb_55 hM, hM, sI_ne, sI_at, hG, hnm, e1, e2, e3, e4, e5, h, uI_sI, upd_at, a3]
      · show arN 8 _ (rngF (wyS A B on v) (l + 1) 0 (fun _ => 0))
        rw [rngF_s]
        have := arN_upd (arN_upd hy (B l) (rngF (wyS A B on v) l 0 (fun _ => 0) (B l) + v (A l))) (A l) (rngF (wyS A B on v) l 0 (fun _ => 0) (A l) + v (B l))
        generalize rngF (wyS A B on v) l 0 (fun _ => 0) = d at this ⊢
        unfold wyS
        rw [ho l hl, decide_eq_true h, if_pos rfl, updN_at d (B l) _ (A l), if_neg a3]
        exact this
    · refine ⟨y, ?_, ?_⟩
      · show fX5_goneFrom_b65 nf kk T N R (q + 1) (sI (sI I (m + 23) x) (m + 24) y) m (ii k) (ii l) = _
        rw [fX5_goneFrom_b65]
        simp (disch := omega) only [↓nm_v, ↓tg, ↓rA, ↓chk_if, ↓reduceIte, inb_ii, ii_nat, ii_add, and_self, bi_zb, if_bi, if_bi1, ii_leT, ii_leF, ii_ltT, ii_ltF, ii_eqF, ii_m1F, ↓mb_2 hM, ↓mb_3 hM, ↓mb_4 hM, ↓mb_5 hM, ↓mb_6 hM, ↓mb_7 hM, ↓mb_9 hM, ↓mb_10 hM, ↓mb_12 hM, ↓mb_22 hM, ↓mb_24 hM, ↓mb_25 hM, ↓mb_27 hM, ↓mb_28 hM, ↓mb_31 hM, ↓mb_32 hM, ↓mb_33 hM, ↓mb_35 hM, ↓mb_36 hM, ↓mb_37 hM, ↓mb_41 hM, ↓mb_42 hM, ↓mb_43 hM, ↓mb_44 hM, ↓mb_45 hM, ↓mb_46 hM, ↓mb_47 hM, ↓mb_48 hM, ↓mb_49 hM, ↓mb_55 hM, hM, sI_ne, hG, hnm, e5, h]
      · show arN 8 _ (rngF (wyS A B on v) (l + 1) 0 (fun _ => 0))
        rw [rngF_s]
        generalize rngF (wyS A B on v) l 0 (fun _ => 0) = d at hy ⊢
        unfold wyS
        rw [ho l hl, decide_eq_false h, if_neg (by decide)]
        exact hy
  · intro q y hy
    show fX5_goneFrom_b65 nf kk T N R (q + 1) (sI (sI I (m + 23) x) (m + 24) y) m (ii k) (ii n) = _
    rw [fX5_goneFrom_b65]
    simp (disch := omega) only [↓nm_v, ↓tg, ↓rA, ↓chk_if, ↓reduceIte, inb_ii, ii_nat, ii_add, and_self, bi_zb, if_bi, if_bi1, ii_leT, ii_leF, ii_ltT, ii_ltF, ii_eqF, ii_m1F, ↓mb_2 hM, ↓mb_3 hM, ↓mb_4 hM, ↓mb_5 hM, ↓mb_6 hM, ↓mb_7 hM, ↓mb_9 hM, ↓mb_10 hM, ↓mb_12 hM, ↓mb_22 hM, ↓mb_24 hM, ↓mb_25 hM, ↓mb_27 hM, ↓mb_28 hM, ↓mb_31 hM, ↓mb_32 hM, ↓mb_33 hM, ↓mb_35 hM, ↓mb_36 hM, ↓mb_37 hM, ↓mb_41 hM, ↓mb_42 hM, ↓mb_43 hM, ↓mb_44 hM, ↓mb_45 hM, ↓mb_46 hM, ↓mb_47 hM, ↓mb_48 hM, ↓mb_49 hM, ↓mb_55 hM, hM, sI_ne, hG]
theorem m_ways6 (hM : MSh m T N R) (hnf : 70 < nf) (kk : xI → Nat → Int32 → Option (Int32 × xI)) (k : Nat) {x y : Nat → Int32} {v : Nat → Nat} (hy : arN 8 y v) :
    ∃ x', fX5_goneFrom_b166 nf kk T N R nf (sI (sI I (m + 23) x) (m + 24) y) m (ii k) (ii 0) = kk (sI (sI I (m + 23) x') (m + 24) y) m (ii (k + 1)) ∧ arN 8 x' v := by
  refine loop_rel (fun q x l => fX5_goneFrom_b166 nf kk T N R q (sI (sI I (m + 23) x) (m + 24) y) m (ii k) (ii l)) (fun l x => arN l x v) 8 (fun x => kk (sI (sI I (m + 23) x) (m + 24) y) m (ii (k + 1))) ?_ ?_ 8 0 x nf (by omega) (by omega) (fun j hj => by omega)
  · intro q x l hl hx
    have e := hy l hl
    refine ⟨upd x l (ii (v l)), ?_, ?_⟩
    · show fX5_goneFrom_b166 nf kk T N R (q + 1) (sI (sI I (m + 23) x) (m + 24) y) m (ii k) (ii l) = _
      rw [fX5_goneFrom_b166]
      simp (disch := omega) only [↓nm_v, ↓tg, ↓rA, ↓chk_if, ↓reduceIte, inb_ii, ii_nat, ii_add, and_self, bi_zb, if_bi, if_bi1, ii_leT, ii_leF, ii_ltT, ii_ltF, ii_eqF, ii_m1F, ↓mb_2 hM, ↓mb_3 hM, ↓mb_4 hM, ↓mb_5 hM, ↓mb_6 hM, ↓mb_7 hM, ↓mb_9 hM, ↓mb_10 hM, ↓mb_12 hM, ↓mb_22 hM, ↓mb_24 hM, ↓mb_25 hM, ↓mb_27 hM, ↓mb_28 hM, ↓mb_31 hM, ↓mb_32 hM, ↓mb_33 hM, ↓mb_35 hM, ↓mb_36 hM, ↓mb_37 hM, ↓mb_41 hM, ↓mb_42 hM, ↓mb_43 hM, ↓mb_44 hM, ↓mb_45 hM, ↓mb_46 hM, ↓mb_47 hM, ↓mb_48 hM, ↓mb_49 hM, ↓mb_55 hM, hM, sI_at, uI_sI2, e]
    · have := arN_push hx (v l)
      intro j hj
      rw [this j hj, updN_at]
      split
      · rename_i h
        rw [h]
      · rfl
  · intro q x hx
    show fX5_goneFrom_b166 nf kk T N R (q + 1) (sI (sI I (m + 23) x) (m + 24) y) m (ii k) (ii 8) = _
    rw [fX5_goneFrom_b166]
    simp (disch := omega) only [↓nm_v, ↓tg, ↓rA, ↓chk_if, ↓reduceIte, inb_ii, ii_nat, ii_add, and_self, bi_zb, if_bi, if_bi1, ii_leT, ii_leF, ii_ltT, ii_ltF, ii_eqF, ii_m1F, ↓mb_2 hM, ↓mb_3 hM, ↓mb_4 hM, ↓mb_5 hM, ↓mb_6 hM, ↓mb_7 hM, ↓mb_9 hM, ↓mb_10 hM, ↓mb_12 hM, ↓mb_22 hM, ↓mb_24 hM, ↓mb_25 hM, ↓mb_27 hM, ↓mb_28 hM, ↓mb_31 hM, ↓mb_32 hM, ↓mb_33 hM, ↓mb_35 hM, ↓mb_36 hM, ↓mb_37 hM, ↓mb_41 hM, ↓mb_42 hM, ↓mb_43 hM, ↓mb_44 hM, ↓mb_45 hM, ↓mb_46 hM, ↓mb_47 hM, ↓mb_48 hM, ↓mb_49 hM, ↓mb_55 hM, hM]
theorem m_ways4 (hM : MSh m T N R) (hnf : 70 < nf) (kk : xI → Nat → Int32 → Option (Int32 × xI)) (k : Nat) {x y : Nat → Int32} :
    ∃ y', fX5_goneFrom_b44 nf kk T N R nf (sI (sI I (m + 23) x) (m + 24) y) m (ii k) (ii 0) = fX5_goneFrom_b65 nf kk T N R nf (sI (sI I (m + 23) x) (m + 24) y') m (ii k) (ii 0) ∧ arN 8 y' (fun _ => 0) := by
  refine loop_rel (fun q y l => fX5_goneFrom_b44 nf kk T N R q (sI (sI I (m + 23) x) (m + 24) y) m (ii k) (ii l)) (fun l y => arN l y (fun _ => 0)) 8 (fun y => fX5_goneFrom_b65 nf kk T N R nf (sI (sI I (m + 23) x) (m + 24) y) m (ii k) (ii 0)) ?_ ?_ 8 0 y nf (by omega) (by omega) (fun j hj => by omega)
  · intro q y l hl hy
    refine ⟨upd y l (ii 0), ?_, ?_⟩
    · show fX5_goneFrom_b44 nf kk T N R (q + 1) (sI (sI I (m + 23) x) (m + 24) y) m (ii k) (ii l) = _
      rw [fX5_goneFrom_b44]
      simp (disch := omega) only [↓nm_v, ↓tg, ↓rA, ↓chk_if, ↓reduceIte, inb_ii, ii_nat, ii_add, and_self, bi_zb, if_bi, if_bi1, ii_leT, ii_leF, ii_ltT, ii_ltF, ii_eqF, ii_m1F, ↓mb_2 hM, ↓mb_3 hM, ↓mb_4 hM, ↓mb_5 hM, ↓mb_6 hM, ↓mb_7 hM, ↓mb_9 hM, ↓mb_10 hM, ↓mb_12 hM, ↓mb_22 hM, ↓mb_24 hM, ↓mb_25 hM, ↓mb_27 hM, ↓mb_28 hM, ↓mb_31 hM, ↓mb_32 hM, ↓mb_33 hM, ↓mb_35 hM, ↓mb_36 hM, ↓mb_37 hM, ↓mb_41 hM, ↓mb_42 hM, ↓mb_43 hM, ↓mb_44 hM, ↓mb_45 hM, ↓mb_46 hM, ↓mb_47 hM, ↓mb_48 hM, ↓mb_49 hM, ↓mb_55 hM, hM, uI_sI]
    · have := arN_push hy 0
      intro j hj
      rw [this j hj, updN_at]
      split <;> rfl
  · intro q y hy
    show fX5_goneFrom_b44 nf kk T N R (q + 1) (sI (sI I (m + 23) x) (m + 24) y) m (ii k) (ii 8) = _
    rw [fX5_goneFrom_b44]
    simp (disch := omega) only [↓nm_v, ↓tg, ↓rA, ↓chk_if, ↓reduceIte, inb_ii, ii_nat, ii_add, and_self, bi_zb, if_bi, if_bi1, ii_leT, ii_leF, ii_ltT, ii_ltF, ii_eqF, ii_m1F, ↓mb_2 hM, ↓mb_3 hM, ↓mb_4 hM, ↓mb_5 hM, ↓mb_6 hM, ↓mb_7 hM, ↓mb_9 hM, ↓mb_10 hM, ↓mb_12 hM, ↓mb_22 hM, ↓mb_24 hM, ↓mb_25 hM, ↓mb_27 hM, ↓mb_28 hM, ↓mb_31 hM, ↓mb_32 hM, ↓mb_33 hM, ↓mb_35 hM, ↓mb_36 hM, ↓mb_37 hM, ↓mb_41 hM, ↓mb_42 hM, ↓mb_43 hM, ↓mb_44 hM, ↓mb_45 hM, ↓mb_46 hM, ↓mb_47 hM, ↓mb_48 hM, ↓mb_49 hM, ↓mb_55 hM, hM]
def on0 (Nm Hd : Nat → Int32) (i l : Nat) : Bool := decide (Nm l = Hd i)
theorem m_ways3 (hM : MSh m T N R) (hG : GrM I m n A B W) (hP : GrP n A B W) (hN : ∀ l, l < n → I (m + 2) (8 + l) = Nm l) (hH : I (m + 2) 2 = ii hh) (hh6 : hh ≤ 6) (hHd : ∀ i, i < hh → I (m + 2) (70 + i) = Hd i) (hnf : 70 < nf) {x y : Nat → Int32} {v : Nat → Nat} (hx : arN 8 x v) :
    ∃ x' y', fX5_goneFrom_b32 nf T N R nf (sI (sI I (m + 23) x) (m + 24) y) m (ii 0) = fX5_goneFrom_b200 nf T N R nf (sI (sI I (m + 23) x') (m + 24) y') m (ii 0) (ii 0) ∧ arN 8 x' (wyF A B (on0 Nm Hd) n hh 0 v) := by
  have := loop_rel (fun q (p : (Nat → Int32) × (Nat → Int32)) k => fX5_goneFrom_b32 nf T N R q (sI (sI I (m + 23) p.1) (m + 24) p.2) m (ii k)) (fun k p => arN 8 p.1 (wyF A B (on0 Nm Hd) n k 0 v)) hh (fun p => fX5_goneFrom_b200 nf T N R nf (sI (sI I (m + 23) p.1) (m + 24) p.2) m (ii 0) (ii 0)) ?_ ?_ hh 0 (x, y) nf (by omega) (by omega) hx
  · obtain ⟨p, e, h⟩ := this
    exact ⟨p.1, p.2, e, h⟩
  · rintro q ⟨x, y⟩ k hk hx
    obtain ⟨y1, e1, h1⟩ := m_ways4 (I := I) (x := x) (y := y) hM hnf (fX5_goneFrom_b32 nf T N R q) k
    obtain ⟨y2, e2, h2⟩ := m_ways5 (on := on0 Nm Hd k) hM hG hP hN hnf (fX5_goneFrom_b32 nf T N R q) (show k < 6 by omega) (hHd k hk) (fun l _ => rfl) hx h1
    obtain ⟨x3, e3, h3⟩ := m_ways6 (I := I) (x := x) hM hnf (fX5_goneFrom_b32 nf T N R q) k h2
    refine ⟨(x3, y2), ?_, ?_⟩
    · refine Eq.trans ?_ (e1.trans (e2.trans e3))
      show fX5_goneFrom_b32 nf T N R (q + 1) (sI (sI I (m + 23) x) (m + 24) y) m (ii k) = _
      rw [fX5_goneFrom_b32]
      simp (disch := omega) only [↓nm_v, ↓tg, ↓rA, ↓chk_if, ↓reduceIte, inb_ii, ii_nat, ii_add, and_self, bi_zb, if_bi, if_bi1, ii_leT, ii_leF, ii_ltT, ii_ltF, ii_eqF, ii_m1F, ↓mb_2 hM, ↓mb_3 hM, ↓mb_4 hM, ↓mb_5 hM, ↓mb_6 hM, ↓mb_7 hM, ↓mb_9 hM, ↓mb_10 hM, ↓mb_12 hM, ↓mb_22 hM, ↓mb_24 hM, ↓mb_25 hM, ↓mb_27 hM, ↓mb_28 hM, ↓mb_31 hM, ↓mb_32 hM, ↓mb_33 hM, ↓mb_35 hM, ↓mb_36 hM, ↓mb_37 hM, ↓mb_41 hM, ↓mb_42 hM, ↓mb_43 hM, ↓mb_44 hM, ↓mb_45 hM, ↓mb_46 hM, ↓mb_47 hM, ↓mb_48 hM, ↓mb_49 hM, ↓mb_55 hM, hM, sI_ne, hH]
    · show arN 8 x3 (wyF A B _ n (k + 1) 0 v)
      unfold wyF
      rw [rngF_s]
      exact h3
  · rintro q ⟨x, y⟩ hx
    show fX5_goneFrom_b32 nf T N R (q + 1) (sI (sI I (m + 23) x) (m + 24) y) m (ii hh) = _
    rw [fX5_goneFrom_b32]
    simp (disch := omega) only [↓nm_v, ↓tg, ↓rA, ↓chk_if, ↓reduceIte, inb_ii, ii_nat, ii_add, and_self, bi_zb, if_bi, if_bi1, ii_leT, ii_leF, ii_ltT, ii_ltF, ii_eqF, ii_m1F, ↓mb_2 hM, ↓mb_3 hM, ↓mb_4 hM, ↓mb_5 hM, ↓mb_6 hM, ↓mb_7 hM, ↓mb_9 hM, ↓mb_10 hM, ↓mb_12 hM, ↓mb_22 hM, ↓mb_24 hM, ↓mb_25 hM, ↓mb_27 hM, ↓mb_28 hM, ↓mb_31 hM, ↓mb_32 hM, ↓mb_33 hM, ↓mb_35 hM, ↓mb_36 hM, ↓mb_37 hM, ↓mb_41 hM, ↓mb_42 hM, ↓mb_43 hM, ↓mb_44 hM, ↓mb_45 hM, ↓mb_46 hM, ↓mb_47 hM, ↓mb_48 hM, ↓mb_49 hM, ↓mb_55 hM, hM, sI_ne, hH]
def eN (k c : Nat) : Nat := if c = k then 1 else 0
theorem m_goneFrom (hM : MSh m T N R) (hG : GrM I m n A B W) (hP : GrP n A B W) (hN : ∀ l, l < n → I (m + 2) (8 + l) = Nm l) (hH : I (m + 2) 2 = ii hh) (hh6 : hh ≤ 6) (hHd : ∀ i, i < hh → I (m + 2) (70 + i) = Hd i) (hnf : 70 < nf) {k : Nat} (hk : k < 8) (x y : Nat → Int32) :
    ∃ x' y', fX5_goneFrom nf T N (sI (sI I (m + 23) x) (m + 24) y) R m (ii k) = some (ii (smN (wyF A B (on0 Nm Hd) n hh 0 (eN k)) 8), sI (sI I (m + 23) x') (m + 24) y') ∧ arN 8 x' (wyF A B (on0 Nm Hd) n hh 0 (eN k)) := by
  have h1 : ∃ x', fX5_goneFrom_b2 nf T N R nf (sI (sI I (m + 23) x) (m + 24) y) m (ii k) (ii 0) = fX5_goneFrom_b32 nf T N R nf (sI (sI I (m + 23) x') (m + 24) y) m (ii 0) ∧ arN 8 x' (eN k) := by
    refine loop_rel (fun q x l => fX5_goneFrom_b2 nf T N R q (sI (sI I (m + 23) x) (m + 24) y) m (ii k) (ii l)) (fun l x => arN l x (eN k)) 8 (fun x => fX5_goneFrom_b32 nf T N R nf (sI (sI I (m + 23) x) (m + 24) y) m (ii 0)) ?_ ?_ 8 0 _ nf (by omega) (by omega) (fun j hj => by omega)
    · intro q x l hl hx
      refine ⟨upd x l (ii (eN k l)), ?_, ?_⟩
      · show fX5_goneFrom_b2 nf T N R (q + 1) (sI (sI I (m + 23) x) (m + 24) y) m (ii k) (ii l) = _
        rw [fX5_goneFrom_b2]
        unfold eN
        by_cases h : l = k
        · simp (disch := omega) only [↓nm_v, ↓tg, ↓rA, ↓chk_if, ↓reduceIte, inb_ii, ii_nat, ii_add, and_self, bi_zb, if_bi, if_bi1, ii_leT, ii_leF, ii_ltT, ii_ltF, ii_eqF, ii_m1F, ↓mb_2 hM, ↓mb_3 hM, ↓mb_4 hM, ↓mb_5 hM, ↓mb_6 hM, ↓mb_7 hM, ↓mb_9 hM, ↓mb_10 hM, ↓mb_12 hM, ↓mb_22 hM, ↓mb_24 hM, ↓mb_25 hM, ↓mb_27 hM, ↓mb_28 hM, ↓mb_31 hM, ↓mb_32 hM, ↓mb_33 hM, ↓mb_35 hM, ↓mb_36 hM, ↓mb_37 hM, ↓mb_41 hM, ↓mb_42 hM, ↓mb_43 hM, ↓mb_44 hM, ↓mb_45 hM, ↓mb_46 hM, ↓mb_47 hM, ↓mb_48 hM, ↓mb_49 hM, ↓mb_55 hM, hM, uI_sI2, h]
        · simp (disch := omega) only [↓nm_v, ↓tg, ↓rA, ↓chk_if, ↓reduceIte, inb_ii, ii_nat, ii_add, and_self, bi_zb, if_bi, if_bi1, ii_leT, ii_leF, ii_ltT, ii_ltF, ii_eqF, ii_m1F, ↓mb_2 hM, ↓mb_3 hM, ↓mb_4 hM, ↓mb_5 hM, ↓mb_6 hM, ↓mb_7 hM, ↓mb_9 hM, ↓mb_10 hM, ↓mb_12 hM, ↓mb_22 hM, ↓mb_24 hM, ↓mb_25 hM, ↓mb_27 hM, ↓mb_28 hM, ↓mb_31 hM, ↓mb_32 hM, ↓mb_33 hM, ↓mb_35 hM, ↓mb_36 hM, ↓mb_37 hM, ↓mb_41 hM, ↓mb_42 hM, ↓mb_43 hM, ↓mb_44 hM, ↓mb_45 hM, ↓mb_46 hM, ↓mb_47 hM, ↓mb_48 hM, ↓mb_49 hM, ↓mb_55 hM, hM, uI_sI2, h]
      · have := arN_push hx (eN k l)
        intro j hj
        rw [this j hj, updN_at]
        split
        · rename_i h
          rw [h]
        · rfl
    · intro q x hx
      show fX5_goneFrom_b2 nf T N R (q + 1) (sI (sI I (m + 23) x) (m + 24) y) m (ii k) (ii 8) = _
      rw [fX5_goneFrom_b2]
      simp (disch := omega) only [↓nm_v, ↓tg, ↓rA, ↓chk_if, ↓reduceIte, inb_ii, ii_nat, ii_add, and_self, bi_zb, if_bi, if_bi1, ii_leT, ii_leF, ii_ltT, ii_ltF, ii_eqF, ii_m1F, ↓mb_2 hM, ↓mb_3 hM, ↓mb_4 hM, ↓mb_5 hM, ↓mb_6 hM, ↓mb_7 hM, ↓mb_9 hM, ↓mb_10 hM, ↓mb_12 hM, ↓mb_22 hM, ↓mb_24 hM, ↓mb_25 hM, ↓mb_27 hM, ↓mb_28 hM, ↓mb_31 hM, ↓mb_32 hM, ↓mb_33 hM, ↓mb_35 hM, ↓mb_36 hM, ↓mb_37 hM, ↓mb_41 hM, ↓mb_42 hM, ↓mb_43 hM, ↓mb_44 hM, ↓mb_45 hM, ↓mb_46 hM, ↓mb_47 hM, ↓mb_48 hM, ↓mb_49 hM, ↓mb_55 hM, hM]
  obtain ⟨x1, e1, h1⟩ := h1
  obtain ⟨x2, y2, e2, h2⟩ := m_ways3 (y := y) hM hG hP hN hH hh6 hHd hnf h1
  refine ⟨x2, y2, ?_, h2⟩
  unfold fX5_goneFrom
  refine e1.trans (e2.trans ?_)
  refine loop0 (fun q v l => fX5_goneFrom_b200 nf T N R q (sI (sI I (m + 23) x2) (m + 24) y2) m (ii v) (ii l)) (fun i v => v + wyF A B (on0 Nm Hd) n hh 0 (eN k) i) 8 (fun v => some (ii v, sI (sI I (m + 23) x2) (m + 24) y2)) ?_ ?_ (by omega) 0
  · intro q v l hl
    have e := h2 l hl
    show fX5_goneFrom_b200 nf T N R (q + 1) (sI (sI I (m + 23) x2) (m + 24) y2) m (ii v) (ii l) = fX5_goneFrom_b200 nf T N R q (sI (sI I (m + 23) x2) (m + 24) y2) m (ii (v + wyF A B (on0 Nm Hd) n hh 0 (eN k) l)) (ii (l + 1))
    rw [fX5_goneFrom_b200]
    simp (disch := omega) only [↓nm_v, ↓tg, ↓rA, ↓chk_if, ↓reduceIte, inb_ii, ii_nat, ii_add, and_self, bi_zb, if_bi, if_bi1, ii_leT, ii_leF, ii_ltT, ii_ltF, ii_eqF, ii_m1F, ↓mb_2 hM, ↓mb_3 hM, ↓mb_4 hM, ↓mb_5 hM, ↓mb_6 hM, ↓mb_7 hM, ↓mb_9 hM, ↓mb_10 hM, ↓mb_12 hM, ↓mb_22 hM, ↓mb_24 hM, ↓mb_25 hM, ↓mb_27 hM, ↓mb_28 hM, ↓mb_31 hM, ↓mb_32 hM, ↓mb_33 hM, ↓mb_35 hM, ↓mb_36 hM, ↓mb_37 hM, ↓mb_41 hM, ↓mb_42 hM, ↓mb_43 hM, ↓mb_44 hM, ↓mb_45 hM, ↓mb_46 hM, ↓mb_47 hM, ↓mb_48 hM, ↓mb_49 hM, ↓mb_55 hM, hM, sI_ne, sI_at, e]
  · intro q v
    show fX5_goneFrom_b200 nf T N R (q + 1) (sI (sI I (m + 23) x2) (m + 24) y2) m (ii v) (ii 8) = _
    rw [fX5_goneFrom_b200]
    simp (disch := omega) only [↓nm_v, ↓tg, ↓rA, ↓chk_if, ↓reduceIte, inb_ii, ii_nat, ii_add, and_self, bi_zb, if_bi, if_bi1, ii_leT, ii_leF, ii_ltT, ii_ltF, ii_eqF, ii_m1F, ↓mb_2 hM, ↓mb_3 hM, ↓mb_4 hM, ↓mb_5 hM, ↓mb_6 hM, ↓mb_7 hM, ↓mb_9 hM, ↓mb_10 hM, ↓mb_12 hM, ↓mb_22 hM, ↓mb_24 hM, ↓mb_25 hM, ↓mb_27 hM, ↓mb_28 hM, ↓mb_31 hM, ↓mb_32 hM, ↓mb_33 hM, ↓mb_35 hM, ↓mb_36 hM, ↓mb_37 hM, ↓mb_41 hM, ↓mb_42 hM, ↓mb_43 hM, ↓mb_44 hM, ↓mb_45 hM, ↓mb_46 hM, ↓mb_47 hM, ↓mb_48 hM, ↓mb_49 hM, ↓mb_55 hM, hM]
/-- what gone answers -/
def goneA (A B : Nat → Nat) (Nm Hd : Nat → Int32) (n hh : Nat) (x : Int32) : Int32 :=
  if rg x 0 2 = true then (if x = ii 0 then ii (smN (wyF A B (on0 Nm Hd) n hh 0 (fun _ => 1)) 8) else if x = ii 1 then bitsOf (fun o => decide (0 < wyF A B (fun i => on0 Nm Hd (hh - 1 - i)) n hh 0 (fun _ => 1) o)) else bitsOf (fun o => decide (0 < wyF A B (on0 Nm Hd) n hh 0 (fun _ => 1) o))) else -1
theorem c_gone2 (hC : CSh c s T N R) (hS : StSh s T N R) (hnf : 70 < nf) (x : Int32) {V : Nat → Nat} (hV : arN 8 (I (c + 35)) V) (hb : ∀ o, o < 8 → V o < 100000000) :
    fX0_gone_b32 nf T N R nf I c x (ii 0) (ii 0) (ii 0) = some (if x = ii 0 then ii (smN V 8) else bitsOf (fun o => decide (0 < V o)), I) := by
  have := loop0 (fun q (p : Nat × Int32) l => fX0_gone_b32 nf T N R q I c x (ii p.1) p.2 (ii l)) (fun i p => (p.1 + V i, bitS (fun o => decide (0 < V o)) i p.2)) 8 (fun p => some (if x = ii 0 then ii p.1 else p.2, I)) ?_ ?_ (show 8 < nf by omega) (0, ii 0)
  · refine Eq.trans this ?_
    have e : ∀ (d l : Nat) (p : Nat × Int32), rngF (fun i (p : Nat × Int32) => (p.1 + V i, bitS (fun o => decide (0 < V o)) i p.2)) d l p = (rngF (fun i x => x + V i) d l p.1, rngF (bitS (fun o => decide (0 < V o))) d l p.2) := by
      intro d
      induction d with
      | zero => intro l p; rfl
      | succ d ih => intro l p; exact ih (l + 1) _
    rw [e]
    rfl
  · rintro q ⟨v, w⟩ l hl
    have e := hV l hl
    have e2 := hb l hl
    show fX0_gone_b32 nf T N R (q + 1) I c x (ii v) w (ii l) = fX0_gone_b32 nf T N R q I c x (ii (v + V l)) (bitS (fun o => decide (0 < V o)) l w) (ii (l + 1))
    rw [fX0_gone_b32]
    unfold bitS
    by_cases h : 0 < V l
    · simp (disch := omega) only [↓nm_v, ↓tg, ↓rA, ↓chk_if, ↓reduceIte, inb_ii, ii_nat, ii_add, and_self, bi_zb, if_bi, if_bi1, ii_leT, ii_leF, ii_ltT, ii_ltF, ii_eqF, ii_m1F, ↓cb_2 hC, ↓cb_1 hC, ↓cb_3 hC, ↓cb_4 hC, ↓cb_5 hC, ↓cb_6 hC, ↓cb_7 hC, ↓cb_10 hC, ↓cb_17 hC, ↓cb_18 hC, ↓cb_19 hC, ↓cb_20 hC, ↓cb_21 hC, ↓cb_22 hC, ↓cb_23 hC, ↓cb_8 hC, ↓cb_9 hC, ↓cb_24 hC, ↓cb_16 hC, ↓cb29_0 hC, ↓cb29_1 hC, ↓sb_0 hS, ↓sb1_0 hS, ↓sb1_1 hS, ↓sb1_2 hS, ↓sb_1 hS, ↓sb_2 hS, ↓sb_3 hS, ↓sb_4 hS, ↓sb_5 hS, ↓sb_6 hS, ↓sb_7 hS, hC, hS, e, h, decide_true]
    · simp (disch := omega) only [↓nm_v, ↓tg, ↓rA, ↓chk_if, ↓reduceIte, inb_ii, ii_nat, ii_add, and_self, bi_zb, if_bi, if_bi1, ii_leT, ii_leF, ii_ltT, ii_ltF, ii_eqF, ii_m1F, ↓cb_2 hC, ↓cb_1 hC, ↓cb_3 hC, ↓cb_4 hC, ↓cb_5 hC, ↓cb_6 hC, ↓cb_7 hC, ↓cb_10 hC, ↓cb_17 hC, ↓cb_18 hC, ↓cb_19 hC, ↓cb_20 hC, ↓cb_21 hC, ↓cb_22 hC, ↓cb_23 hC, ↓cb_8 hC, ↓cb_9 hC, ↓cb_24 hC, ↓cb_16 hC, ↓cb29_0 hC, ↓cb29_1 hC, ↓sb_0 hS, ↓sb1_0 hS, ↓sb1_1 hS, ↓sb1_2 hS, ↓sb_1 hS, ↓sb_2 hS, ↓sb_3 hS, ↓sb_4 hS, ↓sb_5 hS, ↓sb_6 hS, ↓sb_7 hS, hC, hS, e, h, decide_false, Bool.false_eq_true]
  · rintro q ⟨v, w⟩
    show fX0_gone_b32 nf T N R (q + 1) I c x (ii v) w (ii 8) = _
    rw [fX0_gone_b32]
    by_cases h : x = ii 0
    · simp (disch := omega) only [↓nm_v, ↓tg, ↓rA, ↓chk_if, ↓reduceIte, inb_ii, ii_nat, ii_add, and_self, bi_zb, if_bi, if_bi1, ii_leT, ii_leF, ii_ltT, ii_ltF, ii_eqF, ii_m1F, ↓cb_2 hC, ↓cb_1 hC, ↓cb_3 hC, ↓cb_4 hC, ↓cb_5 hC, ↓cb_6 hC, ↓cb_7 hC, ↓cb_10 hC, ↓cb_17 hC, ↓cb_18 hC, ↓cb_19 hC, ↓cb_20 hC, ↓cb_21 hC, ↓cb_22 hC, ↓cb_23 hC, ↓cb_8 hC, ↓cb_9 hC, ↓cb_24 hC, ↓cb_16 hC, ↓cb29_0 hC, ↓cb29_1 hC, ↓sb_0 hS, ↓sb1_0 hS, ↓sb1_1 hS, ↓sb1_2 hS, ↓sb_1 hS, ↓sb_2 hS, ↓sb_3 hS, ↓sb_4 hS, ↓sb_5 hS, ↓sb_6 hS, ↓sb_7 hS, hC, hS, h]
    · simp (disch := omega) only [↓nm_v, ↓tg, ↓rA, ↓chk_if, ↓reduceIte, inb_ii, ii_nat, ii_add, and_self, bi_zb, if_bi, if_bi1, ii_leT, ii_leF, ii_ltT, ii_ltF, ii_eqF, ii_m1F, ↓cb_2 hC, ↓cb_1 hC, ↓cb_3 hC, ↓cb_4 hC, ↓cb_5 hC, ↓cb_6 hC, ↓cb_7 hC, ↓cb_10 hC, ↓cb_17 hC, ↓cb_18 hC, ↓cb_19 hC, ↓cb_20 hC, ↓cb_21 hC, ↓cb_22 hC, ↓cb_23 hC, ↓cb_8 hC, ↓cb_9 hC, ↓cb_24 hC, ↓cb_16 hC, ↓cb29_0 hC, ↓cb29_1 hC, ↓sb_0 hS, ↓sb1_0 hS, ↓sb1_1 hS, ↓sb1_2 hS, ↓sb_1 hS, ↓sb_2 hS, ↓sb_3 hS, ↓sb_4 hS, ↓sb_5 hS, ↓sb_6 hS, ↓sb_7 hS, hC, hS, h]
theorem c_gone (hC : CSh c s T N R) (hS : StSh s T N R) (hs : s = c + 2) (hG : GrC I s n A B W) (hP : GrP n A B W) (hN : ∀ l, l < n → I (s + 4) l = Nm l) (hH : I s 10 = ii hh) (hh6 : hh ≤ 6) (hHd : ∀ i, i < hh → I (s + 10) i = Hd i) (hnf : 70 < nf) (x : Int32) :
    ∃ u w, fX0_gone nf T N I R c x = some (goneA A B Nm Hd n hh x, sI (sI I (c + 35) u) (c + 36) w) := by
  obtain ⟨hn, hA, hB, hne, hW⟩ := hP
  have hb : ∀ (on : Nat → Nat → Bool) o, o < 8 → wyF A B on n hh 0 (fun _ => 1) o < 100000000 := by
    intro on o ho
    have h1 := wyF_le on hn hne hA hB (v := fun _ => 1) (fun _ _ => Nat.le_refl _) hh 0 o ho
    have h2 : 10 ^ hh ≤ 10 ^ 6 := Nat.pow_le_pow_right (by omega) hh6
    omega
  unfold fX0_gone goneA
  cases h : rg x 0 2 with
  | false =>
    refine ⟨I (c + 35), sI I (c + 35) (I (c + 35)) (c + 36), ?_⟩
    rw [sI_id, sI_id]
    simp (disch := omega) only [↓nm_v, ↓tg, ↓rA, ↓chk_if, ↓reduceIte, inb_ii, ii_nat, ii_add, and_self, bi_zb, if_bi, if_bi1, ii_leT, ii_leF, ii_ltT, ii_ltF, ii_eqF, ii_m1F, ↓cb_2 hC, ↓cb_1 hC, ↓cb_3 hC, ↓cb_4 hC, ↓cb_5 hC, ↓cb_6 hC, ↓cb_7 hC, ↓cb_10 hC, ↓cb_17 hC, ↓cb_18 hC, ↓cb_19 hC, ↓cb_20 hC, ↓cb_21 hC, ↓cb_22 hC, ↓cb_23 hC, ↓cb_8 hC, ↓cb_9 hC, ↓cb_24 hC, ↓cb_16 hC, ↓cb29_0 hC, ↓cb29_1 hC, ↓sb_0 hS, ↓sb1_0 hS, ↓sb1_1 hS, ↓sb1_2 hS, ↓sb_1 hS, ↓sb_2 hS, ↓sb_3 hS, ↓sb_4 hS, ↓sb_5 hS, ↓sb_6 hS, ↓sb_7 hS, hC, hS, ↓bn_of (c_i0_2 x), h, Bool.false_eq_true]
  | true =>
    by_cases h1 : x = ii 1
    · obtain ⟨u, w, e, hu⟩ := c_laysWays hC hS hs hG ⟨hn, hA, hB, hne, hW⟩ hN hH hh6 hHd hnf false
      refine ⟨u, w, ?_⟩
      have := c_gone2 (I := sI (sI I (c + 35) u) (c + 36) w) hC hS hnf x (by rw [sI_ne (by omega), sI_at]; exact hu) (hb _)
      subst h1
      simp (disch := omega) only [↓nm_v, ↓tg, ↓rA, ↓chk_if, ↓reduceIte, inb_ii, ii_nat, ii_add, and_self, bi_zb, if_bi, if_bi1, ii_leT, ii_leF, ii_ltT, ii_ltF, ii_eqF, ii_m1F, ↓cb_2 hC, ↓cb_1 hC, ↓cb_3 hC, ↓cb_4 hC, ↓cb_5 hC, ↓cb_6 hC, ↓cb_7 hC, ↓cb_10 hC, ↓cb_17 hC, ↓cb_18 hC, ↓cb_19 hC, ↓cb_20 hC, ↓cb_21 hC, ↓cb_22 hC, ↓cb_23 hC, ↓cb_8 hC, ↓cb_9 hC, ↓cb_24 hC, ↓cb_16 hC, ↓cb29_0 hC, ↓cb29_1 hC, ↓sb_0 hS, ↓sb1_0 hS, ↓sb1_1 hS, ↓sb1_2 hS, ↓sb_1 hS, ↓sb_2 hS, ↓sb_3 hS, ↓sb_4 hS, ↓sb_5 hS, ↓sb_6 hS, ↓sb_7 hS, hC, hS, fX0_gone_b22, ↓bn_of (c_i0_2 (ii 1)), h, ← bi_f, ↓bn_of e]
      rw [bi_f, this]
      rfl
    · obtain ⟨u, w, e, hu⟩ := c_laysWays hC hS hs hG ⟨hn, hA, hB, hne, hW⟩ hN hH hh6 hHd hnf true
      refine ⟨u, w, ?_⟩
      have := c_gone2 (I := sI (sI I (c + 35) u) (c + 36) w) hC hS hnf x (by rw [sI_ne (by omega), sI_at]; exact hu) (hb _)
      rw [bi_t] at e
      simp (disch := omega) only [↓nm_v, ↓tg, ↓rA, ↓chk_if, ↓reduceIte, inb_ii, ii_nat, ii_add, and_self, bi_zb, if_bi, if_bi1, ii_leT, ii_leF, ii_ltT, ii_ltF, ii_eqF, ii_m1F, ↓cb_2 hC, ↓cb_1 hC, ↓cb_3 hC, ↓cb_4 hC, ↓cb_5 hC, ↓cb_6 hC, ↓cb_7 hC, ↓cb_10 hC, ↓cb_17 hC, ↓cb_18 hC, ↓cb_19 hC, ↓cb_20 hC, ↓cb_21 hC, ↓cb_22 hC, ↓cb_23 hC, ↓cb_8 hC, ↓cb_9 hC, ↓cb_24 hC, ↓cb_16 hC, ↓cb29_0 hC, ↓cb29_1 hC, ↓sb_0 hS, ↓sb1_0 hS, ↓sb1_1 hS, ↓sb1_2 hS, ↓sb_1 hS, ↓sb_2 hS, ↓sb_3 hS, ↓sb_4 hS, ↓sb_5 hS, ↓sb_6 hS, ↓sb_7 hS, hC, hS, fX0_gone_b22, ↓bn_of (c_i0_2 x), h, h1, ↓bn_of e]
      rw [this]
      rfl
theorem m_gone3 (hM : MSh m T N R) (hnf : 70 < nf) (kk : xI → Nat → Int32 → Int32 → Int32 → Int32 → Int32 → Option (Int32 × xI)) (x v b e : Int32) (k : Nat) {V : Nat → Nat} (hV : arN 8 (I (m + 23)) V) (hb : ∀ o, o < 8 → V o < 100000000) :
    fX5_gone_b68 nf kk T N R nf I m x v b e (ii k) (ii 0) = kk I m x v b (rngF (bitS (fun o => decide (0 < V o))) 8 0 e) (ii (k + 1)) := by
  refine loop0 (fun q e l => fX5_gone_b68 nf kk T N R q I m x v b e (ii k) (ii l)) (bitS (fun o => decide (0 < V o))) 8 (fun e => kk I m x v b e (ii (k + 1))) ?_ ?_ (show 8 < nf by omega) e
  · intro q e l hl
    have e1 := hV l hl
    have e2 := hb l hl
    show fX5_gone_b68 nf kk T N R (q + 1) I m x v b e (ii k) (ii l) = fX5_gone_b68 nf kk T N R q I m x v b (bitS (fun o => decide (0 < V o)) l e) (ii k) (ii (l + 1))
    rw [fX5_gone_b68]
    unfold bitS
    by_cases h : 0 < V l
    · simp (disch := omega) only [↓nm_v, ↓tg, ↓rA, ↓chk_if, ↓reduceIte, inb_ii, ii_nat, ii_add, and_self, bi_zb, if_bi, if_bi1, ii_leT, ii_leF, ii_ltT, ii_ltF, ii_eqF, ii_m1F, ↓mb_2 hM, ↓mb_3 hM, ↓mb_4 hM, ↓mb_5 hM, ↓mb_6 hM, ↓mb_7 hM, ↓mb_9 hM, ↓mb_10 hM, ↓mb_12 hM, ↓mb_22 hM, ↓mb_24 hM, ↓mb_25 hM, ↓mb_27 hM, ↓mb_28 hM, ↓mb_31 hM, ↓mb_32 hM, ↓mb_33 hM, ↓mb_35 hM, ↓mb_36 hM, ↓mb_37 hM, ↓mb_41 hM, ↓mb_42 hM, ↓mb_43 hM, ↓mb_44 hM, ↓mb_45 hM, ↓mb_46 hM, ↓mb_47 hM, ↓mb_48 hM, ↓mb_49 hM, ↓mb_55 hM, hM, e1, h, decide_true]
    · simp (disch := omega) only [↓nm_v, ↓tg, ↓rA, ↓chk_if, ↓reduceIte, inb_ii, ii_nat, ii_add, and_self, bi_zb, if_bi, if_bi1, ii_leT, ii_leF, ii_ltT, ii_ltF, ii_eqF, ii_m1F, ↓mb_2 hM, ↓mb_3 hM, ↓mb_4 hM, ↓mb_5 hM, ↓mb_6 hM, ↓mb_7 hM, ↓mb_9 hM, ↓mb_10 hM, ↓mb_12 hM, ↓mb_22 hM, ↓mb_24 hM, ↓mb_25 hM, ↓mb_27 hM, ↓mb_28 hM, ↓mb_31 hM, ↓mb_32 hM, ↓mb_33 hM, ↓mb_35 hM, ↓mb_36 hM, ↓mb_37 hM, ↓mb_41 hM, ↓mb_42 hM, ↓mb_43 hM, ↓mb_44 hM, ↓mb_45 hM, ↓mb_46 hM, ↓mb_47 hM, ↓mb_48 hM, ↓mb_49 hM, ↓mb_55 hM, hM, e1, h, decide_false, Bool.false_eq_true]
  · intro q e
    show fX5_gone_b68 nf kk T N R (q + 1) I m x v b e (ii k) (ii 8) = _
    rw [fX5_gone_b68]
    simp (disch := omega) only [↓nm_v, ↓tg, ↓rA, ↓chk_if, ↓reduceIte, inb_ii, ii_nat, ii_add, and_self, bi_zb, if_bi, if_bi1, ii_leT, ii_leF, ii_ltT, ii_ltF, ii_eqF, ii_m1F, ↓mb_2 hM, ↓mb_3 hM, ↓mb_4 hM, ↓mb_5 hM, ↓mb_6 hM, ↓mb_7 hM, ↓mb_9 hM, ↓mb_10 hM, ↓mb_12 hM, ↓mb_22 hM, ↓mb_24 hM, ↓mb_25 hM, ↓mb_27 hM, ↓mb_28 hM, ↓mb_31 hM, ↓mb_32 hM, ↓mb_33 hM, ↓mb_35 hM, ↓mb_36 hM, ↓mb_37 hM, ↓mb_41 hM, ↓mb_42 hM, ↓mb_43 hM, ↓mb_44 hM, ↓mb_45 hM, ↓mb_46 hM, ↓mb_47 hM, ↓mb_48 hM, ↓mb_49 hM, ↓mb_55 hM, hM]
/-- what the model sums up over the starts ahead of k -/
def gnN (A B : Nat → Nat) (on : Nat → Nat → Bool) (n hh k : Nat) : Nat := smN (fun j => smN (wyF A B on n hh 0 (eN j)) 8) k
def gnB (A B : Nat → Nat) (on : Nat → Nat → Bool) (n hh k : Nat) : Int32 := rngF (bitS (fun j => decide (0 < smN (wyF A B on n hh 0 (eN j)) 8))) k 0 (ii 0)
def gnE (A B : Nat → Nat) (on : Nat → Nat → Bool) (n hh k : Nat) : Int32 := bitsOf (fun o => decide (0 < smN (fun j => wyF A B on n hh 0 (eN j) o) k))
theorem pos_or (a b : Nat) : (decide (0 < a) || decide (0 < b)) = decide (0 < a + b) := by
  by_cases h1 : 0 < a
  · rw [decide_eq_true h1, decide_eq_true (show 0 < a + b by omega)]; rfl
  · by_cases h2 : 0 < b
    · rw [decide_eq_true h2, decide_eq_true (show 0 < a + b by omega), Bool.or_true]
    · rw [decide_eq_false h1, decide_eq_false h2, decide_eq_false (show ¬ 0 < a + b by omega)]; rfl
theorem gnE_s (A B : Nat → Nat) (on : Nat → Nat → Bool) (n hh k : Nat) : rngF (bitS (fun o => decide (0 < wyF A B on n hh 0 (eN k) o))) 8 0 (gnE A B on n hh k) = gnE A B on n hh (k + 1) := by
  unfold gnE
  rw [bits_or]
  apply bits_congr
  intro o _
  rw [smN_succ]
  exact pos_or _ _
theorem m_gone2 (hM : MSh m T N R) (hG : GrM I m n A B W) (hP : GrP n A B W) (hN : ∀ l, l < n → I (m + 2) (8 + l) = Nm l) (hH : I (m + 2) 2 = ii hh) (hh6 : hh ≤ 6) (hHd : ∀ i, i < hh → I (m + 2) (70 + i) = Hd i) (hnf : 70 < nf) (z : Int32) (x y : Nat → Int32) :
    ∃ x' y', fX5_gone_b29 nf T N R nf (sI (sI I (m + 23) x) (m + 24) y) m z (ii 0) (ii 0) (ii 0) (ii 0) = some (if z = ii 0 then ii (gnN A B (on0 Nm Hd) n hh 8) else if z = ii 1 then gnB A B (on0 Nm Hd) n hh 8 else gnE A B (on0 Nm Hd) n hh 8, sI (sI I (m + 23) x') (m + 24) y') := by
  have hb : ∀ k o, o < 8 → wyF A B (on0 Nm Hd) n hh 0 (eN k) o ≤ 1000000 := by
    intro k o ho
    have h1 := wyF_le (on0 Nm Hd) hP.1 hP.2.2.2.1 hP.2.1 hP.2.2.1 (v := eN k) (fun c _ => by unfold eN; split <;> omega) hh 0 o ho
    have h2 : 10 ^ hh ≤ 10 ^ 6 := Nat.pow_le_pow_right (by omega) hh6
    omega
  have hz : gnE A B (on0 Nm Hd) n hh 0 = ii 0 := by
    unfold gnE
    exact (bits_congr (q := fun _ => false) (fun o _ => rfl)).trans (by decide)
  have := loop_rel (fun q (p : (Nat → Int32) × (Nat → Int32)) k => fX5_gone_b29 nf T N R q (sI (sI I (m + 23) p.1) (m + 24) p.2) m z (ii (gnN A B (on0 Nm Hd) n hh k)) (gnB A B (on0 Nm Hd) n hh k) (gnE A B (on0 Nm Hd) n hh k) (ii k)) (fun _ _ => True) 8 (fun p => some (if z = ii 0 then ii (gnN A B (on0 Nm Hd) n hh 8) else if z = ii 1 then gnB A B (on0 Nm Hd) n hh 8 else gnE A B (on0 Nm Hd) n hh 8, sI (sI I (m + 23) p.1) (m + 24) p.2)) ?_ ?_ 8 0 (x, y) nf (by omega) (by omega) trivial
  · obtain ⟨p, e, _⟩ := this
    refine ⟨p.1, p.2, ?_⟩
    rw [hz] at e
    exact e
  · rintro q ⟨x, y⟩ k hk _
    obtain ⟨x', y', e1, h1⟩ := m_goneFrom hM hG hP hN hH hh6 hHd hnf hk x y
    refine ⟨(x', y'), ?_, trivial⟩
    have e3 := fun (v b e : Int32) => m_gone3 (I := sI (sI I (m + 23) x') (m + 24) y') hM hnf (fX5_gone_b29 nf T N R q) z v b e k (by rw [sI_ne (by omega), sI_at]; exact h1) (fun o ho => by have := hb k o ho; omega)
    have hle : smN (wyF A B (on0 Nm Hd) n hh 0 (eN k)) 8 ≤ 8 * 1000000 := smN_le (fun o ho => hb k o ho)
    show fX5_gone_b29 nf T N R (q + 1) (sI (sI I (m + 23) x) (m + 24) y) m z (ii (gnN A B (on0 Nm Hd) n hh k)) (gnB A B (on0 Nm Hd) n hh k) (gnE A B (on0 Nm Hd) n hh k) (ii k) = fX5_gone_b29 nf T N R q (sI (sI I (m + 23) x') (m + 24) y') m z (ii (gnN A B (on0 Nm Hd) n hh (k + 1))) (gnB A B (on0 Nm Hd) n hh (k + 1)) (gnE A B (on0 Nm Hd) n hh (k + 1)) (ii (k + 1))
    rw [fX5_gone_b29]
    have g1 : gnN A B (on0 Nm Hd) n hh (k + 1) = gnN A B (on0 Nm Hd) n hh k + smN (wyF A B (on0 Nm Hd) n hh 0 (eN k)) 8 := smN_succ _ _
    have g2 : gnB A B (on0 Nm Hd) n hh (k + 1) = bitS (fun j => decide (0 < smN (wyF A B (on0 Nm Hd) n hh 0 (eN j)) 8)) k (gnB A B (on0 Nm Hd) n hh k) := rngF_s _ _ _
    rw [g1, g2, ← gnE_s]
    unfold bitS
    by_cases h : 0 < smN (wyF A B (on0 Nm Hd) n hh 0 (eN k)) 8
    · simp (disch := omega) only [↓nm_v, ↓tg, ↓rA, ↓chk_if, ↓reduceIte, inb_ii, ii_nat, ii_add, and_self, bi_zb, if_bi, if_bi1, ii_leT, ii_leF, ii_ltT, ii_ltF, ii_eqF, ii_m1F, ↓mb_2 hM, ↓mb_3 hM, ↓mb_4 hM, ↓mb_5 hM, ↓mb_6 hM, ↓mb_7 hM, ↓mb_9 hM, ↓mb_10 hM, ↓mb_12 hM, ↓mb_22 hM, ↓mb_24 hM, ↓mb_25 hM, ↓mb_27 hM, ↓mb_28 hM, ↓mb_31 hM, ↓mb_32 hM, ↓mb_33 hM, ↓mb_35 hM, ↓mb_36 hM, ↓mb_37 hM, ↓mb_41 hM, ↓mb_42 hM, ↓mb_43 hM, ↓mb_44 hM, ↓mb_45 hM, ↓mb_46 hM, ↓mb_47 hM, ↓mb_48 hM, ↓mb_49 hM, ↓mb_55 hM, hM, ↓b2_of e1, e3, h, decide_true]
      rfl
    · simp (disch := omega) only [↓nm_v, ↓tg, ↓rA, ↓chk_if, ↓reduceIte, inb_ii, ii_nat, ii_add, and_self, bi_zb, if_bi, if_bi1, ii_leT, ii_leF, ii_ltT, ii_ltF, ii_eqF, ii_m1F, ↓mb_2 hM, ↓mb_3 hM, ↓mb_4 hM, ↓mb_5 hM, ↓mb_6 hM, ↓mb_7 hM, ↓mb_9 hM, ↓mb_10 hM, ↓mb_12 hM, ↓mb_22 hM, ↓mb_24 hM, ↓mb_25 hM, ↓mb_27 hM, ↓mb_28 hM, ↓mb_31 hM, ↓mb_32 hM, ↓mb_33 hM, ↓mb_35 hM, ↓mb_36 hM, ↓mb_37 hM, ↓mb_41 hM, ↓mb_42 hM, ↓mb_43 hM, ↓mb_44 hM, ↓mb_45 hM, ↓mb_46 hM, ↓mb_47 hM, ↓mb_48 hM, ↓mb_49 hM, ↓mb_55 hM, hM, ↓b2_of e1, e3, h, decide_false, Bool.false_eq_true]
      rfl
  · rintro q ⟨x, y⟩ _
    show fX5_gone_b29 nf T N R (q + 1) (sI (sI I (m + 23) x) (m + 24) y) m z (ii (gnN A B (on0 Nm Hd) n hh 8)) (gnB A B (on0 Nm Hd) n hh 8) (gnE A B (on0 Nm Hd) n hh 8) (ii 8) = _
    rw [fX5_gone_b29]
    by_cases h : z = ii 0
    · simp (disch := omega) only [↓nm_v, ↓tg, ↓rA, ↓chk_if, ↓reduceIte, inb_ii, ii_nat, ii_add, and_self, bi_zb, if_bi, if_bi1, ii_leT, ii_leF, ii_ltT, ii_ltF, ii_eqF, ii_m1F, ↓mb_2 hM, ↓mb_3 hM, ↓mb_4 hM, ↓mb_5 hM, ↓mb_6 hM, ↓mb_7 hM, ↓mb_9 hM, ↓mb_10 hM, ↓mb_12 hM, ↓mb_22 hM, ↓mb_24 hM, ↓mb_25 hM, ↓mb_27 hM, ↓mb_28 hM, ↓mb_31 hM, ↓mb_32 hM, ↓mb_33 hM, ↓mb_35 hM, ↓mb_36 hM, ↓mb_37 hM, ↓mb_41 hM, ↓mb_42 hM, ↓mb_43 hM, ↓mb_44 hM, ↓mb_45 hM, ↓mb_46 hM, ↓mb_47 hM, ↓mb_48 hM, ↓mb_49 hM, ↓mb_55 hM, hM, h]
    · by_cases h2 : z = ii 1
      · simp (disch := omega) only [↓nm_v, ↓tg, ↓rA, ↓chk_if, ↓reduceIte, inb_ii, ii_nat, ii_add, and_self, bi_zb, if_bi, if_bi1, ii_leT, ii_leF, ii_ltT, ii_ltF, ii_eqF, ii_m1F, ↓mb_2 hM, ↓mb_3 hM, ↓mb_4 hM, ↓mb_5 hM, ↓mb_6 hM, ↓mb_7 hM, ↓mb_9 hM, ↓mb_10 hM, ↓mb_12 hM, ↓mb_22 hM, ↓mb_24 hM, ↓mb_25 hM, ↓mb_27 hM, ↓mb_28 hM, ↓mb_31 hM, ↓mb_32 hM, ↓mb_33 hM, ↓mb_35 hM, ↓mb_36 hM, ↓mb_37 hM, ↓mb_41 hM, ↓mb_42 hM, ↓mb_43 hM, ↓mb_44 hM, ↓mb_45 hM, ↓mb_46 hM, ↓mb_47 hM, ↓mb_48 hM, ↓mb_49 hM, ↓mb_55 hM, hM, h, h2]
      · simp (disch := omega) only [↓nm_v, ↓tg, ↓rA, ↓chk_if, ↓reduceIte, inb_ii, ii_nat, ii_add, and_self, bi_zb, if_bi, if_bi1, ii_leT, ii_leF, ii_ltT, ii_ltF, ii_eqF, ii_m1F, ↓mb_2 hM, ↓mb_3 hM, ↓mb_4 hM, ↓mb_5 hM, ↓mb_6 hM, ↓mb_7 hM, ↓mb_9 hM, ↓mb_10 hM, ↓mb_12 hM, ↓mb_22 hM, ↓mb_24 hM, ↓mb_25 hM, ↓mb_27 hM, ↓mb_28 hM, ↓mb_31 hM, ↓mb_32 hM, ↓mb_33 hM, ↓mb_35 hM, ↓mb_36 hM, ↓mb_37 hM, ↓mb_41 hM, ↓mb_42 hM, ↓mb_43 hM, ↓mb_44 hM, ↓mb_45 hM, ↓mb_46 hM, ↓mb_47 hM, ↓mb_48 hM, ↓mb_49 hM, ↓mb_55 hM, hM, h, h2]
theorem one_sum (i : Nat) (hi : i < 8) : smN (fun k => eN k i) 8 = 1 := by
  unfold eN
  rw [smN_congr (g := fun k => if k = i then (fun _ => 1) k else 0) (fun k _ => by by_cases h : i = k <;> simp [h]; intro h2; exact absurd h2.symm h), smN_one hi]
theorem gn_F {A B : Nat → Nat} (on : Nat → Nat → Bool) {n hh : Nat} (hne : ∀ l, l < n → A l ≠ B l) (hA : ∀ l, l < n → A l < 8) (hB : ∀ l, l < n → B l < 8) (o : Nat) (ho : o < 8) : wyF A B on n hh 0 (fun _ => 1) o = smN (fun j => wyF A B on n hh 0 (eN j) o) 8 := by
  rw [← wyF_sum on hne hh 8 (fun j => eN j) 0 o]
  have key : ∀ (d l : Nat) (u v : Nat → Nat), (∀ i, i < 8 → u i = v i) → ∀ i, i < 8 → wyF A B on n d l u i = wyF A B on n d l v i := by
    intro d
    induction d with
    | zero => intro l u v h i hi; exact h i hi
    | succ d ih =>
      intro l u v h i hi
      show wyF A B on n d (l + 1) (wyT A B (on l) n u) i = wyF A B on n d (l + 1) (wyT A B (on l) n v) i
      refine ih (l + 1) _ _ (fun i hi => ?_) i hi
      rw [wy_at (on l) u hne, wy_at (on l) v hne]
      apply smN_congr
      intro j hj
      unfold wyE
      rw [h _ (hA j hj), h _ (hB j hj)]
  exact key hh 0 _ _ (fun i hi => (one_sum i hi).symm) o ho
theorem gn_B {A B : Nat → Nat} (on : Nat → Nat → Bool) {n hh : Nat} (hne : ∀ l, l < n → A l ≠ B l) (hA : ∀ l, l < n → A l < 8) (hB : ∀ l, l < n → B l < 8) (k : Nat) (hk : k < 8) : smN (wyF A B on n hh 0 (eN k)) 8 = wyF A B (fun i => on (hh - 1 - i)) n hh 0 (fun _ => 1) k := by
  have h := wyF_adj on hne hA hB hh (fun _ => 1) (eN k)
  rw [smN_congr (g := wyF A B on n hh 0 (eN k)) (fun c _ => Nat.one_mul _)] at h
  rw [h, smN_congr (g := fun c => if c = k then wyF A B (fun i => on (hh - 1 - i)) n hh 0 (fun _ => 1) c else 0) (fun c _ => by unfold eN; by_cases q : c = k <;> simp [q]), smN_one (f := wyF A B (fun i => on (hh - 1 - i)) n hh 0 (fun _ => 1)) hk]
theorem m_gone (hM : MSh m T N R) (hG : GrM I m n A B W) (hP : GrP n A B W) (hN : ∀ l, l < n → I (m + 2) (8 + l) = Nm l) (hH : I (m + 2) 2 = ii hh) (hh6 : hh ≤ 6) (hHd : ∀ i, i < hh → I (m + 2) (70 + i) = Hd i) (hnf : 70 < nf) (x : Int32) :
    ∃ u w, fX5_gone nf T N I R m x = some (goneA A B Nm Hd n hh x, sI (sI (uI I m 0 (ii 0)) (m + 23) u) (m + 24) w) := by
  have hG2 := GrM_t hG 0 (ii 0)
  have hN2 : ∀ l, l < n → uI I m 0 (ii 0) (m + 2) (8 + l) = Nm l := by
    rw [uI_ne (by omega)]
    exact hN
  have hH2 : uI I m 0 (ii 0) (m + 2) 2 = ii hh := by
    rw [uI_ne (by omega)]
    exact hH
  have hHd2 : ∀ i, i < hh → uI I m 0 (ii 0) (m + 2) (70 + i) = Hd i := by
    rw [uI_ne (by omega)]
    exact hHd
  unfold fX5_gone goneA
  cases h : rg x 0 2 with
  | false =>
    refine ⟨uI I m 0 (ii 0) (m + 23), sI (uI I m 0 (ii 0)) (m + 23) (uI I m 0 (ii 0) (m + 23)) (m + 24), ?_⟩
    rw [sI_id, sI_id]
    simp (disch := omega) only [↓nm_v, ↓tg, ↓rA, ↓chk_if, ↓reduceIte, inb_ii, ii_nat, ii_add, and_self, bi_zb, if_bi, if_bi1, ii_leT, ii_leF, ii_ltT, ii_ltF, ii_eqF, ii_m1F, ↓mb_2 hM, ↓mb_3 hM, ↓mb_4 hM, ↓mb_5 hM, ↓mb_6 hM, ↓mb_7 hM, ↓mb_9 hM, ↓mb_10 hM, ↓mb_12 hM, ↓mb_22 hM, ↓mb_24 hM, ↓mb_25 hM, ↓mb_27 hM, ↓mb_28 hM, ↓mb_31 hM, ↓mb_32 hM, ↓mb_33 hM, ↓mb_35 hM, ↓mb_36 hM, ↓mb_37 hM, ↓mb_41 hM, ↓mb_42 hM, ↓mb_43 hM, ↓mb_44 hM, ↓mb_45 hM, ↓mb_46 hM, ↓mb_47 hM, ↓mb_48 hM, ↓mb_49 hM, ↓mb_55 hM, hM, ↓bn_of (m_i0_2 x), h, Bool.false_eq_true]
  | true =>
    obtain ⟨u, w, e⟩ := m_gone2 hM hG2 hP hN2 hH2 hh6 hHd2 hnf x (uI I m 0 (ii 0) (m + 23)) (sI (uI I m 0 (ii 0)) (m + 23) (uI I m 0 (ii 0) (m + 23)) (m + 24))
    rw [sI_id, sI_id] at e
    refine ⟨u, w, ?_⟩
    simp (disch := omega) only [↓nm_v, ↓tg, ↓rA, ↓chk_if, ↓reduceIte, inb_ii, ii_nat, ii_add, and_self, bi_zb, if_bi, if_bi1, ii_leT, ii_leF, ii_ltT, ii_ltF, ii_eqF, ii_m1F, ↓mb_2 hM, ↓mb_3 hM, ↓mb_4 hM, ↓mb_5 hM, ↓mb_6 hM, ↓mb_7 hM, ↓mb_9 hM, ↓mb_10 hM, ↓mb_12 hM, ↓mb_22 hM, ↓mb_24 hM, ↓mb_25 hM, ↓mb_27 hM, ↓mb_28 hM, ↓mb_31 hM, ↓mb_32 hM, ↓mb_33 hM, ↓mb_35 hM, ↓mb_36 hM, ↓mb_37 hM, ↓mb_41 hM, ↓mb_42 hM, ↓mb_43 hM, ↓mb_44 hM, ↓mb_45 hM, ↓mb_46 hM, ↓mb_47 hM, ↓mb_48 hM, ↓mb_49 hM, ↓mb_55 hM, hM, ↓bn_of (m_i0_2 x), h]
    rw [e]
    have q1 : gnN A B (on0 Nm Hd) n hh 8 = smN (wyF A B (on0 Nm Hd) n hh 0 (fun _ => 1)) 8 := by
      unfold gnN
      rw [smN_swap (fun j c => wyF A B (on0 Nm Hd) n hh 0 (eN j) c) 8 8]
      exact smN_congr (fun o ho => (gn_F (on0 Nm Hd) hP.2.2.2.1 hP.2.1 hP.2.2.1 o ho).symm)
    have q2 : gnB A B (on0 Nm Hd) n hh 8 = bitsOf (fun o => decide (0 < wyF A B (fun i => on0 Nm Hd (hh - 1 - i)) n hh 0 (fun _ => 1) o)) := by
      refine bits_congr (fun o ho => ?_)
      rw [gn_B (on0 Nm Hd) hP.2.2.2.1 hP.2.1 hP.2.2.1 o ho]
    have q3 : gnE A B (on0 Nm Hd) n hh 8 = bitsOf (fun o => decide (0 < wyF A B (on0 Nm Hd) n hh 0 (fun _ => 1) o)) := by
      refine bits_congr (fun o ho => ?_)
      rw [gn_F (on0 Nm Hd) hP.2.2.2.1 hP.2.1 hP.2.2.1 o ho]
    rw [q1, q2, q3]
end
