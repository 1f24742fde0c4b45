/-! PLAIN LAND, 13: how far, both sides -/
def fwB (F : Nat) (A B W : Nat → Nat) (n k : Nat) : Nat → Nat := rngF (fun k d => rngF (fwT k) 64 0 d) k 0 (rngF (fwL A B W) n 0 (fwZ F))
theorem fwB_ok {F : Nat} {A B W : Nat → Nat} {n : Nat} (hP : GrP n A B W) {k : Nat} (hk : k ≤ 8) : fwOK F A B W n k (fwB F A B W n k) := by
  unfold fwB
  refine rngF_inv (P := fun k d => fwOK F A B W n k d) (n := k) (fun l d hl h => ?_) k 0 _ (by omega) (fw_ok0 hP.2.1 hP.2.2.1 hP.2.2.2.1)
  have e := fw_stage (k := l) (d := d) (by omega) (h.2.1 l (by omega))
  show fwOK F A B W n (l + 1) (rngF (fwT l) 64 0 d)
  rw [e]
  exact fw_ok1 (by omega) h
theorem fwB_8 {F : Nat} {A B W : Nat → Nat} {n : Nat} (hP : GrP n A B W) : fwB F A B W n 8 = fwA F A B W n := by
  unfold fwB fwA
  refine rngF_ci (n := 8) (fun k d => fwOK F A B W n k d) (fun l d hl h => ?_) 8 0 _ (by omega) (fw_ok0 hP.2.1 hP.2.2.1 hP.2.2.2.1)
  exact ⟨fw_stage hl (h.2.1 l hl), fw_ok1 hl h⟩
theorem fw_le64 {F : Nat} {d : Nat → Nat} (h : ∀ a b, a < 8 → b < 8 → d (8 * a + b) ≤ F) : ∀ j, j < 64 → d j ≤ F := by
  intro j hj
  have := h (j / 8) (j % 8) (by omega) (by omega)
  rw [show 8 * (j / 8) + j % 8 = j by omega] at this
  exact this
theorem fwT_le {F k : Nat} {d : Nat → Nat} (h : ∀ j, j < 64 → d j ≤ F) (t : Nat) : ∀ j, j < 64 → rngF (fwT k) t 0 d j ≤ F := by
  induction t with
  | zero => exact h
  | succ t ih =>
    intro j hj
    rw [rngF_s]
    show updN _ t _ j ≤ F
    rw [updN_at]
    split
    · rename_i q
      subst q
      have := ih j hj
      omega
    · exact ih j hj
theorem fwL_le {F : Nat} {A B W : Nat → Nat} (hF : 9 ≤ F) (n : Nat) (hA : ∀ l, l < n → A l < 8) (hB : ∀ l, l < n → B l < 8) : ∀ j, j < 64 → rngF (fwL A B W) n 0 (fwZ F) j ≤ F := by
  induction n with
  | zero =>
    intro j hj
    show fwZ F j ≤ F
    unfold fwZ
    split <;> omega
  | succ n ih =>
    have ih := ih (fun l h => hA l (by omega)) (fun l h => hB l (by omega))
    have h1 := hA n (by omega)
    have h2 := hB n (by omega)
    have h3 := ih (8 * A n + B n) (by omega)
    intro j hj
    have h4 := ih j hj
    rw [rngF_s]
    generalize rngF (fwL A B W) n 0 (fwZ F) = d at h3 h4 ⊢
    unfold fwL
    rw [updN_at, updN_at]
    (repeat' split) <;> omega
section
variable {T N : xT} {R : xR} {I : xI} {c s m n nf : Nat} {A B W : Nat → Nat}
theorem c_far5 (hC : CSh c s T N R) (hS : StSh s T N R) (hnf : 70 < nf) {k a : Nat} (hk : k < 8) (ha : a < 8) {d : Nat → Nat} (hd : ∀ j, j < 64 → d j ≤ 1000000) (k1 : xI → Nat → Int32 → Option xI) (k2 : xI → Nat → Int32 → Int32 → Option xI) {x : Nat → Int32} (hx : arN 64 x (rngF (fwT k) (8 * a) 0 d)) :
    ∃ x', fX0_laysFar_b155 nf k1 k2 T N R nf (sI I (c + 34) x) c (ii k) (ii a) (ii 0) = k2 (sI I (c + 34) x') c (ii k) (ii (a + 1)) ∧ arN 64 x' (rngF (fwT k) (8 * (a + 1)) 0 d) := by
  refine loop_rel (fun q x b => fX0_laysFar_b155 nf k1 k2 T N R q (sI I (c + 34) x) c (ii k) (ii a) (ii b)) (fun b x => arN 64 x (rngF (fwT k) (8 * a + b) 0 d)) 8 (fun x => k2 (sI I (c + 34) x) c (ii k) (ii (a + 1))) ?_ ?_ 8 0 x nf (by omega) (by omega) hx
  · intro q x b hb hx
    have hle := fwT_le (k := k) hd (8 * a + b)
    have e1 := hx (8 * a + b) (by omega)
    have e2 := hx (8 * a + k) (by omega)
    have e3 := hx (8 * k + b) (by omega)
    have l1 := hle (8 * a + b) (by omega)
    have l2 := hle (8 * a + k) (by omega)
    have l3 := hle (8 * k + b) (by omega)
    refine ⟨upd x (8 * a + b) (ii (min (rngF (fwT k) (8 * a + b) 0 d (8 * a + k) + rngF (fwT k) (8 * a + b) 0 d (8 * k + b)) (rngF (fwT k) (8 * a + b) 0 d (8 * a + b)))), ?_, ?_⟩
    · show fX0_laysFar_b155 nf k1 k2 T N R (q + 1) (sI I (c + 34) x) c (ii k) (ii a) (ii b) = _
      rw [fX0_laysFar_b155]
      simp (disch := omega) only [↓nm_v, ↓tg, ↓rA, ↓chk_if, ↓reduceIte, inb_ii, ii_nat, ii_add, and_self, bi_zb, if_bi, if_bi1, ii_leT, ii_leF, ii_ltT, ii_ltF, ii_eqF, ii_m1F, ↓cb_2 hC, ↓cb_1 hC, ↓cb_3 hC, ↓cb_4 hC, ↓cb_5 hC, ↓cb_6 hC, ↓cb_7 hC, ↓cb_10 hC, ↓cb_17 hC, ↓cb_18 hC, ↓cb_19 hC, ↓cb_20 hC, ↓cb_21 hC, ↓cb_22 hC, ↓cb_23 hC, ↓cb_8 hC, ↓cb_9 hC, ↓cb_24 hC, ↓cb_16 hC, ↓cb29_0 hC, ↓cb29_1 hC, ↓sb_0 hS, ↓sb1_0 hS, ↓sb1_1 hS, ↓sb1_2 hS, ↓sb_1 hS, ↓sb_2 hS, ↓sb_3 hS, ↓sb_4 hS, ↓sb_5 hS, ↓sb_6 hS, ↓sb_7 hS, hC, hS, fX0_farOf, ↓bn_e, ii_mul, sI_at, e1, e2, e3, ii_min, uI_sI]
    · show arN 64 _ (rngF (fwT k) (8 * a + b + 1) 0 d)
      rw [rngF_s]
      unfold fwT
      rw [show (8 * a + b) / 8 = a by omega, show (8 * a + b) % 8 = b by omega]
      exact arN_upd hx _ _
  · intro q x hx
    show fX0_laysFar_b155 nf k1 k2 T N R (q + 1) (sI I (c + 34) x) c (ii k) (ii a) (ii 8) = _
    rw [fX0_laysFar_b155]
    simp (disch := omega) only [↓nm_v, ↓tg, ↓rA, ↓chk_if, ↓reduceIte, inb_ii, ii_nat, ii_add, and_self, bi_zb, if_bi, if_bi1, ii_leT, ii_leF, ii_ltT, ii_ltF, ii_eqF, ii_m1F, ↓cb_2 hC, ↓cb_1 hC, ↓cb_3 hC, ↓cb_4 hC, ↓cb_5 hC, ↓cb_6 hC, ↓cb_7 hC, ↓cb_10 hC, ↓cb_17 hC, ↓cb_18 hC, ↓cb_19 hC, ↓cb_20 hC, ↓cb_21 hC, ↓cb_22 hC, ↓cb_23 hC, ↓cb_8 hC, ↓cb_9 hC, ↓cb_24 hC, ↓cb_16 hC, ↓cb29_0 hC, ↓cb29_1 hC, ↓sb_0 hS, ↓sb1_0 hS, ↓sb1_1 hS, ↓sb1_2 hS, ↓sb_1 hS, ↓sb_2 hS, ↓sb_3 hS, ↓sb_4 hS, ↓sb_5 hS, ↓sb_6 hS, ↓sb_7 hS, hC, hS]
theorem c_far4 (hC : CSh c s T N R) (hS : StSh s T N R) (hnf : 70 < nf) {k : Nat} (hk : k < 8) {d : Nat → Nat} (hd : ∀ j, j < 64 → d j ≤ 1000000) (k1 : xI → Nat → Int32 → Option xI) {x : Nat → Int32} (hx : arN 64 x d) :
    ∃ x', fX0_laysFar_b147 nf k1 T N R nf (sI I (c + 34) x) c (ii k) (ii 0) = k1 (sI I (c + 34) x') c (ii (k + 1)) ∧ arN 64 x' (rngF (fwT k) 64 0 d) := by
  refine loop_rel (fun q x a => fX0_laysFar_b147 nf k1 T N R q (sI I (c + 34) x) c (ii k) (ii a)) (fun a x => arN 64 x (rngF (fwT k) (8 * a) 0 d)) 8 (fun x => k1 (sI I (c + 34) x) c (ii (k + 1))) ?_ ?_ 8 0 x nf (by omega) (by omega) hx
  · intro q x a ha hx
    obtain ⟨x', e, hx'⟩ := c_far5 (I := I) hC hS hnf hk ha hd k1 (fX0_laysFar_b147 nf k1 T N R q) hx
    refine ⟨x', ?_, hx'⟩
    show fX0_laysFar_b147 nf k1 T N R (q + 1) (sI I (c + 34) x) c (ii k) (ii a) = _
    rw [fX0_laysFar_b147]
    simp (disch := omega) only [↓nm_v, ↓tg, ↓rA, ↓chk_if, ↓reduceIte, inb_ii, ii_nat, ii_add, and_self, bi_zb, if_bi, if_bi1, ii_leT, ii_leF, ii_ltT, ii_ltF, ii_eqF, ii_m1F, ↓cb_2 hC, ↓cb_1 hC, ↓cb_3 hC, ↓cb_4 hC, ↓cb_5 hC, ↓cb_6 hC, ↓cb_7 hC, ↓cb_10 hC, ↓cb_17 hC, ↓cb_18 hC, ↓cb_19 hC, ↓cb_20 hC, ↓cb_21 hC, ↓cb_22 hC, ↓cb_23 hC, ↓cb_8 hC, ↓cb_9 hC, ↓cb_24 hC, ↓cb_16 hC, ↓cb29_0 hC, ↓cb29_1 hC, ↓sb_0 hS, ↓sb1_0 hS, ↓sb1_1 hS, ↓sb1_2 hS, ↓sb_1 hS, ↓sb_2 hS, ↓sb_3 hS, ↓sb_4 hS, ↓sb_5 hS, ↓sb_6 hS, ↓sb_7 hS, hC, hS]
    exact e
  · intro q x hx
    show fX0_laysFar_b147 nf k1 T N R (q + 1) (sI I (c + 34) x) c (ii k) (ii 8) = _
    rw [fX0_laysFar_b147]
    simp (disch := omega) only [↓nm_v, ↓tg, ↓rA, ↓chk_if, ↓reduceIte, inb_ii, ii_nat, ii_add, and_self, bi_zb, if_bi, if_bi1, ii_leT, ii_leF, ii_ltT, ii_ltF, ii_eqF, ii_m1F, ↓cb_2 hC, ↓cb_1 hC, ↓cb_3 hC, ↓cb_4 hC, ↓cb_5 hC, ↓cb_6 hC, ↓cb_7 hC, ↓cb_10 hC, ↓cb_17 hC, ↓cb_18 hC, ↓cb_19 hC, ↓cb_20 hC, ↓cb_21 hC, ↓cb_22 hC, ↓cb_23 hC, ↓cb_8 hC, ↓cb_9 hC, ↓cb_24 hC, ↓cb_16 hC, ↓cb29_0 hC, ↓cb29_1 hC, ↓sb_0 hS, ↓sb1_0 hS, ↓sb1_1 hS, ↓sb1_2 hS, ↓sb_1 hS, ↓sb_2 hS, ↓sb_3 hS, ↓sb_4 hS, ↓sb_5 hS, ↓sb_6 hS, ↓sb_7 hS, hC, hS]
theorem c_far3 (hC : CSh c s T N R) (hS : StSh s T N R) (hP : GrP n A B W) (hnf : 70 < nf) {x : Nat → Int32} (hx : arN 64 x (fwB 1000000 A B W n 0)) :
    ∃ x', fX0_laysFar_b139 nf T N R nf (sI I (c + 34) x) c (ii 0) = some (sI I (c + 34) x') ∧ arN 64 x' (fwB 1000000 A B W n 8) := by
  refine loop_rel (fun q x k => fX0_laysFar_b139 nf T N R q (sI I (c + 34) x) c (ii k)) (fun k x => arN 64 x (fwB 1000000 A B W n k)) 8 (fun x => some (sI I (c + 34) x)) ?_ ?_ 8 0 x nf (by omega) (by omega) hx
  · intro q x k hk hx
    obtain ⟨x', e, hx'⟩ := c_far4 (I := I) hC hS hnf hk (fw_le64 (fwB_ok hP (by omega)).1) (fX0_laysFar_b139 nf T N R q) hx
    refine ⟨x', ?_, ?_⟩
    · show fX0_laysFar_b139 nf T N R (q + 1) (sI I (c + 34) x) c (ii k) = _
      rw [fX0_laysFar_b139]
      simp (disch := omega) only [↓nm_v, ↓tg, ↓rA, ↓chk_if, ↓reduceIte, inb_ii, ii_nat, ii_add, and_self, bi_zb, if_bi, if_bi1, ii_leT, ii_leF, ii_ltT, ii_ltF, ii_eqF, ii_m1F, ↓cb_2 hC, ↓cb_1 hC, ↓cb_3 hC, ↓cb_4 hC, ↓cb_5 hC, ↓cb_6 hC, ↓cb_7 hC, ↓cb_10 hC, ↓cb_17 hC, ↓cb_18 hC, ↓cb_19 hC, ↓cb_20 hC, ↓cb_21 hC, ↓cb_22 hC, ↓cb_23 hC, ↓cb_8 hC, ↓cb_9 hC, ↓cb_24 hC, ↓cb_16 hC, ↓cb29_0 hC, ↓cb29_1 hC, ↓sb_0 hS, ↓sb1_0 hS, ↓sb1_1 hS, ↓sb1_2 hS, ↓sb_1 hS, ↓sb_2 hS, ↓sb_3 hS, ↓sb_4 hS, ↓sb_5 hS, ↓sb_6 hS, ↓sb_7 hS, hC, hS]
      exact e
    · have e2 : fwB 1000000 A B W n (k + 1) = rngF (fwT k) 64 0 (fwB 1000000 A B W n k) := rngF_s _ _ _
      rw [e2]
      exact hx'
  · intro q x hx
    show fX0_laysFar_b139 nf T N R (q + 1) (sI I (c + 34) x) c (ii 8) = _
    rw [fX0_laysFar_b139]
    simp (disch := omega) only [↓nm_v, ↓tg, ↓rA, ↓chk_if, ↓reduceIte, inb_ii, ii_nat, ii_add, and_self, bi_zb, if_bi, if_bi1, ii_leT, ii_leF, ii_ltT, ii_ltF, ii_eqF, ii_m1F, ↓cb_2 hC, ↓cb_1 hC, ↓cb_3 hC, ↓cb_4 hC, ↓cb_5 hC, ↓cb_6 hC, ↓cb_7 hC, ↓cb_10 hC, ↓cb_17 hC, ↓cb_18 hC, ↓cb_19 hC, ↓cb_20 hC, ↓cb_21 hC, ↓cb_22 hC, ↓cb_23 hC, ↓cb_8 hC, ↓cb_9 hC, ↓cb_24 hC, ↓cb_16 hC, ↓cb29_0 hC, ↓cb29_1 hC, ↓sb_0 hS, ↓sb1_0 hS, ↓sb1_1 hS, ↓sb1_2 hS, ↓sb_1 hS, ↓sb_2 hS, ↓sb_3 hS, ↓sb_4 hS, ↓sb_5 hS, ↓sb_6 hS, ↓sb_7 hS, hC, hS]
theorem c_far2 (hC : CSh c s T N R) (hS : StSh s T N R) (hs : s = c + 2) (hG : GrC I s n A B W) (hP : GrP n A B W) (hnf : 70 < nf) {x : Nat → Int32} (hx : arN 64 x (fwZ 1000000)) :
    ∃ x', fX0_laysFar_b40 nf T N R nf (sI I (c + 34) x) c (ii 0) = fX0_laysFar_b139 nf T N R nf (sI I (c + 34) x') c (ii 0) ∧ arN 64 x' (fwB 1000000 A B W n 0) := by
  obtain ⟨hn, hA, hB, hne, hW⟩ := hP
  refine loop_rel (fun q x l => fX0_laysFar_b40 nf T N R q (sI I (c + 34) x) c (ii l)) (fun l x => arN 64 x (rngF (fwL A B W) l 0 (fwZ 1000000))) n (fun x => fX0_laysFar_b139 nf T N R nf (sI I (c + 34) x) c (ii 0)) ?_ ?_ n 0 x nf (by omega) (by omega) hx
  · intro q x l hl hx
    have a1 := hA l hl
    have a2 := hB l hl
    have a3 := hW l hl
    have a4 := hne l hl
    have hle := fwL_le (F := 1000000) (A := A) (B := B) (W := W) (by omega) l (fun l' h => hA l' (by omega)) (fun l' h => hB l' (by omega)) (8 * A l + B l) (by omega)
    have e1 := hx (8 * A l + B l) (by omega)
    refine ⟨upd (upd x (8 * A l + B l) (ii (min (W l) (rngF (fwL A B W) l 0 (fwZ 1000000) (8 * A l + B l))))) (8 * B l + A l) (ii (min (W l) (rngF (fwL A B W) l 0 (fwZ 1000000) (8 * A l + B l)))), ?_, ?_⟩
    · show fX0_laysFar_b40 nf T N R (q + 1) (sI I (c + 34) x) c (ii l) = _
      rw [fX0_laysFar_b40]
      simp (disch := omega) only [↓nm_v, ↓tg, ↓rA, ↓chk_if, ↓reduceIte, inb_ii, ii_nat, ii_add, and_self, bi_zb, if_bi, if_bi1, ii_leT, ii_leF, ii_ltT, ii_ltF, ii_eqF, ii_m1F, ↓cb_2 hC, ↓cb_1 hC, ↓cb_3 hC, ↓cb_4 hC, ↓cb_5 hC, ↓cb_6 hC, ↓cb_7 hC, ↓cb_10 hC, ↓cb_17 hC, ↓cb_18 hC, ↓cb_19 hC, ↓cb_20 hC, ↓cb_21 hC, ↓cb_22 hC, ↓cb_23 hC, ↓cb_8 hC, ↓cb_9 hC, ↓cb_24 hC, ↓cb_16 hC, ↓cb29_0 hC, ↓cb29_1 hC, ↓sb_0 hS, ↓sb1_0 hS, ↓sb1_1 hS, ↓sb1_2 hS, ↓sb_1 hS, ↓sb_2 hS, ↓sb_3 hS, ↓sb_4 hS, ↓sb_5 hS, ↓sb_6 hS, ↓sb_7 hS, hC, hS, ii_mul, sI_ne, sI_at, hG, e1, ii_min, uI_sI, upd_at]
    · show arN 64 _ (rngF (fwL A B W) (l + 1) 0 (fwZ 1000000))
      rw [rngF_s]
      exact arN_upd (arN_upd hx _ _) _ _
  · intro q x hx
    show fX0_laysFar_b40 nf T N R (q + 1) (sI I (c + 34) x) c (ii n) = _
    rw [fX0_laysFar_b40]
    simp (disch := omega) only [↓nm_v, ↓tg, ↓rA, ↓chk_if, ↓reduceIte, inb_ii, ii_nat, ii_add, and_self, bi_zb, if_bi, if_bi1, ii_leT, ii_leF, ii_ltT, ii_ltF, ii_eqF, ii_m1F, ↓cb_2 hC, ↓cb_1 hC, ↓cb_3 hC, ↓cb_4 hC, ↓cb_5 hC, ↓cb_6 hC, ↓cb_7 hC, ↓cb_10 hC, ↓cb_17 hC, ↓cb_18 hC, ↓cb_19 hC, ↓cb_20 hC, ↓cb_21 hC, ↓cb_22 hC, ↓cb_23 hC, ↓cb_8 hC, ↓cb_9 hC, ↓cb_24 hC, ↓cb_16 hC, ↓cb29_0 hC, ↓cb29_1 hC, ↓sb_0 hS, ↓sb1_0 hS, ↓sb1_1 hS, ↓sb1_2 hS, ↓sb_1 hS, ↓sb_2 hS, ↓sb_3 hS, ↓sb_4 hS, ↓sb_5 hS, ↓sb_6 hS, ↓sb_7 hS, hC, hS, sI_ne, hG]
theorem c_far1 (hC : CSh c s T N R) (hS : StSh s T N R) (hnf : 70 < nf) (x : Nat → Int32) :
    ∃ x', fX0_laysFar_b2 nf T N R nf (sI I (c + 34) x) c (ii 0) = fX0_laysFar_b40 nf T N R nf (sI I (c + 34) x') c (ii 0) ∧ arN 64 x' (fwZ 1000000) := by
  refine loop_rel (fun q x l => fX0_laysFar_b2 nf T N R q (sI I (c + 34) x) c (ii l)) (fun l x => arN l x (fwZ 1000000)) 64 (fun x => fX0_laysFar_b40 nf T N R nf (sI I (c + 34) x) c (ii 0)) ?_ ?_ 64 0 x nf (by omega) (by omega) (fun j hj => by omega)
  · intro q x l hl hx
    refine ⟨upd x l (ii (fwZ 1000000 l)), ?_, ?_⟩
    · show fX0_laysFar_b2 nf T N R (q + 1) (sI I (c + 34) x) c (ii l) = _
      rw [fX0_laysFar_b2]
      unfold fwZ
      by_cases h : l / 8 = l % 8
      · simp (disch := omega) only [↓nm_v, ↓tg, ↓rA, ↓chk_if, ↓reduceIte, inb_ii, ii_nat, ii_add, and_self, bi_zb, if_bi, if_bi1, ii_leT, ii_leF, ii_ltT, ii_ltF, ii_eqF, ii_m1F, ↓cb_2 hC, ↓cb_1 hC, ↓cb_3 hC, ↓cb_4 hC, ↓cb_5 hC, ↓cb_6 hC, ↓cb_7 hC, ↓cb_10 hC, ↓cb_17 hC, ↓cb_18 hC, ↓cb_19 hC, ↓cb_20 hC, ↓cb_21 hC, ↓cb_22 hC, ↓cb_23 hC, ↓cb_8 hC, ↓cb_9 hC, ↓cb_24 hC, ↓cb_16 hC, ↓cb29_0 hC, ↓cb29_1 hC, ↓sb_0 hS, ↓sb1_0 hS, ↓sb1_1 hS, ↓sb1_2 hS, ↓sb_1 hS, ↓sb_2 hS, ↓sb_3 hS, ↓sb_4 hS, ↓sb_5 hS, ↓sb_6 hS, ↓sb_7 hS, hC, hS, ↓ii_rem, ii_div, uI_sI, h]
      · simp (disch := omega) only [↓nm_v, ↓tg, ↓rA, ↓chk_if, ↓reduceIte, inb_ii, ii_nat, ii_add, and_self, bi_zb, if_bi, if_bi1, ii_leT, ii_leF, ii_ltT, ii_ltF, ii_eqF, ii_m1F, ↓cb_2 hC, ↓cb_1 hC, ↓cb_3 hC, ↓cb_4 hC, ↓cb_5 hC, ↓cb_6 hC, ↓cb_7 hC, ↓cb_10 hC, ↓cb_17 hC, ↓cb_18 hC, ↓cb_19 hC, ↓cb_20 hC, ↓cb_21 hC, ↓cb_22 hC, ↓cb_23 hC, ↓cb_8 hC, ↓cb_9 hC, ↓cb_24 hC, ↓cb_16 hC, ↓cb29_0 hC, ↓cb29_1 hC, ↓sb_0 hS, ↓sb1_0 hS, ↓sb1_1 hS, ↓sb1_2 hS, ↓sb_1 hS, ↓sb_2 hS, ↓sb_3 hS, ↓sb_4 hS, ↓sb_5 hS, ↓sb_6 hS, ↓sb_7 hS, hC, hS, ↓ii_rem, ii_div, uI_sI, h]
    · intro j hj
      rw [upd_at]
      by_cases h : j = l
      · rw [if_pos h, h]
      · rw [if_neg h]
        exact hx j (by omega)
  · intro q x hx
    show fX0_laysFar_b2 nf T N R (q + 1) (sI I (c + 34) x) c (ii 64) = _
    rw [fX0_laysFar_b2]
    simp (disch := omega) only [↓nm_v, ↓tg, ↓rA, ↓chk_if, ↓reduceIte, inb_ii, ii_nat, ii_add, and_self, bi_zb, if_bi, if_bi1, ii_leT, ii_leF, ii_ltT, ii_ltF, ii_eqF, ii_m1F, ↓cb_2 hC, ↓cb_1 hC, ↓cb_3 hC, ↓cb_4 hC, ↓cb_5 hC, ↓cb_6 hC, ↓cb_7 hC, ↓cb_10 hC, ↓cb_17 hC, ↓cb_18 hC, ↓cb_19 hC, ↓cb_20 hC, ↓cb_21 hC, ↓cb_22 hC, ↓cb_23 hC, ↓cb_8 hC, ↓cb_9 hC, ↓cb_24 hC, ↓cb_16 hC, ↓cb29_0 hC, ↓cb29_1 hC, ↓sb_0 hS, ↓sb1_0 hS, ↓sb1_1 hS, ↓sb1_2 hS, ↓sb_1 hS, ↓sb_2 hS, ↓sb_3 hS, ↓sb_4 hS, ↓sb_5 hS, ↓sb_6 hS, ↓sb_7 hS, hC, hS]
/-- the component's square -/
theorem c_laysFar (hC : CSh c s T N R) (hS : StSh s T N R) (hs : s = c + 2) (hG : GrC I s n A B W) (hP : GrP n A B W) (hnf : 70 < nf) :
    ∃ x, fX0_laysFar nf T N I R c = some (sI I (c + 34) x) ∧ arN 64 x (fwA 1000000 A B W n) := by
  obtain ⟨x1, e1, h1⟩ := c_far1 (I := I) hC hS hnf (I (c + 34))
  obtain ⟨x2, e2, h2⟩ := c_far2 hC hS hs hG hP hnf h1
  obtain ⟨x3, e3, h3⟩ := c_far3 (I := I) hC hS hP hnf h2
  rw [fwB_8 hP] at h3
  refine ⟨x3, ?_, h3⟩
  unfold fX0_laysFar
  rw [sI_id] at e1
  rw [e1, e2, e3]
/-! the model's -/
theorem m_far5 (hM : MSh m T N R) (hnf : 70 < nf) {k a : Nat} (hk : k < 8) (ha : a < 8) {d : Nat → Nat} (hd : ∀ j, j < 64 → d j ≤ 100000000) (k1 : xI → Nat → Int32 → Option xI) (k2 : xI → Nat → Int32 → Int32 → Option xI) {x : Nat → Int32} (hx : arN 64 x (rngF (fwT k) (8 * a) 0 d)) :
    ∃ x', fX5_layFar_b170 nf k1 k2 T N R nf (sI I (m + 22) x) m (ii k) (ii a) (ii 0) = k2 (sI I (m + 22) x') m (ii k) (ii (a + 1)) ∧ arN 64 x' (rngF (fwT k) (8 * (a + 1)) 0 d) := by
  refine loop_rel (fun q x b => fX5_layFar_b170 nf k1 k2 T N R q (sI I (m + 22) x) m (ii k) (ii a) (ii b)) (fun b x => arN 64 x (rngF (fwT k) (8 * a + b) 0 d)) 8 (fun x => k2 (sI I (m + 22) x) m (ii k) (ii (a + 1))) ?_ ?_ 8 0 x nf (by omega) (by omega) hx
  · intro q x b hb hx
    have hle := fwT_le (k := k) hd (8 * a + b)
    have e1 := hx (8 * a + b) (by omega)
    have e2 := hx (8 * a + k) (by omega)
    have e3 := hx (8 * k + b) (by omega)
    have l1 := hle (8 * a + b) (by omega)
    have l2 := hle (8 * a + k) (by omega)
    have l3 := hle (8 * k + b) (by omega)
    refine ⟨upd x (8 * a + b) (ii (min (rngF (fwT k) (8 * a + b) 0 d (8 * a + k) + rngF (fwT k) (8 * a + b) 0 d (8 * k + b)) (rngF (fwT k) (8 * a + b) 0 d (8 * a + b)))), ?_, ?_⟩
    · show fX5_layFar_b170 nf k1 k2 T N R (q + 1) (sI I (m + 22) x) m (ii k) (ii a) (ii b) = _
      rw [fX5_layFar_b170]
      by_cases h : rngF (fwT k) (8 * a + b) 0 d (8 * a + b) ≤ rngF (fwT k) (8 * a + b) 0 d (8 * a + k) + rngF (fwT k) (8 * a + b) 0 d (8 * k + b)
      · rw [show min (rngF (fwT k) (8 * a + b) 0 d (8 * a + k) + rngF (fwT k) (8 * a + b) 0 d (8 * k + b)) (rngF (fwT k) (8 * a + b) 0 d (8 * a + b)) = rngF (fwT k) (8 * a + b) 0 d (8 * a + b) by omega]
        simp (disch := omega) only [↓nm_v, ↓tg, ↓rA, ↓chk_if, ↓reduceIte, inb_ii, ii_nat, ii_add, and_self, bi_zb, if_bi, if_bi1, ii_leT, ii_leF, ii_ltT, ii_ltF, ii_eqF, ii_m1F, ↓mb_2 hM, ↓mb_3 hM, ↓mb_4 hM, ↓mb_5 hM, ↓mb_6 hM, ↓mb_7 hM, ↓mb_9 hM, ↓mb_10 hM, ↓mb_12 hM, ↓mb_22 hM, ↓mb_24 hM, ↓mb_25 hM, ↓mb_27 hM, ↓mb_28 hM, ↓mb_31 hM, ↓mb_32 hM, ↓mb_33 hM, ↓mb_35 hM, ↓mb_36 hM, ↓mb_37 hM, ↓mb_41 hM, ↓mb_42 hM, ↓mb_43 hM, ↓mb_44 hM, ↓mb_45 hM, ↓mb_46 hM, ↓mb_47 hM, ↓mb_48 hM, ↓mb_49 hM, ↓mb_55 hM, hM, ii_mul, sI_at, e1, e2, e3, uI_sI]
      · rw [show min (rngF (fwT k) (8 * a + b) 0 d (8 * a + k) + rngF (fwT k) (8 * a + b) 0 d (8 * k + b)) (rngF (fwT k) (8 * a + b) 0 d (8 * a + b)) = rngF (fwT k) (8 * a + b) 0 d (8 * a + k) + rngF (fwT k) (8 * a + b) 0 d (8 * k + b) by omega]
        simp (disch := omega) only [↓nm_v, ↓tg, ↓rA, ↓chk_if, ↓reduceIte, inb_ii, ii_nat, ii_add, and_self, bi_zb, if_bi, if_bi1, ii_leT, ii_leF, ii_ltT, ii_ltF, ii_eqF, ii_m1F, ↓mb_2 hM, ↓mb_3 hM, ↓mb_4 hM, ↓mb_5 hM, ↓mb_6 hM, ↓mb_7 hM, ↓mb_9 hM, ↓mb_10 hM, ↓mb_12 hM, ↓mb_22 hM, ↓mb_24 hM, ↓mb_25 hM, ↓mb_27 hM, ↓mb_28 hM, ↓mb_31 hM, ↓mb_32 hM, ↓mb_33 hM, ↓mb_35 hM, ↓mb_36 hM, ↓mb_37 hM, ↓mb_41 hM, ↓mb_42 hM, ↓mb_43 hM, ↓mb_44 hM, ↓mb_45 hM, ↓mb_46 hM, ↓mb_47 hM, ↓mb_48 hM, ↓mb_49 hM, ↓mb_55 hM, hM, ii_mul, sI_at, e1, e2, e3, uI_sI]
    · show arN 64 _ (rngF (fwT k) (8 * a + b + 1) 0 d)
      rw [rngF_s]
      unfold fwT
      rw [show (8 * a + b) / 8 = a by omega, show (8 * a + b) % 8 = b by omega]
      exact arN_upd hx _ _
  · intro q x hx
    show fX5_layFar_b170 nf k1 k2 T N R (q + 1) (sI I (m + 22) x) m (ii k) (ii a) (ii 8) = _
    rw [fX5_layFar_b170]
    simp (disch := omega) only [↓nm_v, ↓tg, ↓rA, ↓chk_if, ↓reduceIte, inb_ii, ii_nat, ii_add, and_self, bi_zb, if_bi, if_bi1, ii_leT, ii_leF, ii_ltT, ii_ltF, ii_eqF, ii_m1F, ↓mb_2 hM, ↓mb_3 hM, ↓mb_4 hM, ↓mb_5 hM, ↓mb_6 hM, ↓mb_7 hM, ↓mb_9 hM, ↓mb_10 hM, ↓mb_12 hM, ↓mb_22 hM, ↓mb_24 hM, ↓mb_25 hM, ↓mb_27 hM, ↓mb_28 hM, ↓mb_31 hM, ↓mb_32 hM, ↓mb_33 hM, ↓mb_35 hM, ↓mb_36 hM, ↓mb_37 hM, ↓mb_41 hM, ↓mb_42 hM, ↓mb_43 hM, ↓mb_44 hM, ↓mb_45 hM, ↓mb_46 hM, ↓mb_47 hM, ↓mb_48 hM, ↓mb_49 hM, ↓mb_55 hM, hM]
theorem m_far4 (hM : MSh m T N R) (hnf : 70 < nf) {k : Nat} (hk : k < 8) {d : Nat → Nat} (hd : ∀ j, j < 64 → d j ≤ 100000000) (k1 : xI → Nat → Int32 → Option xI) {x : Nat → Int32} (hx : arN 64 x d) :
    ∃ x', fX5_layFar_b162 nf k1 T N R nf (sI I (m + 22) x) m (ii k) (ii 0) = k1 (sI I (m + 22) x') m (ii (k + 1)) ∧ arN 64 x' (rngF (fwT k) 64 0 d) := by
  refine loop_rel (fun q x a => fX5_layFar_b162 nf k1 T N R q (sI I (m + 22) x) m (ii k) (ii a)) (fun a x => arN 64 x (rngF (fwT k) (8 * a) 0 d)) 8 (fun x => k1 (sI I (m + 22) x) m (ii (k + 1))) ?_ ?_ 8 0 x nf (by omega) (by omega) hx
  · intro q x a ha hx
    obtain ⟨x', e, hx'⟩ := m_far5 (I := I) hM hnf hk ha hd k1 (fX5_layFar_b162 nf k1 T N R q) hx
    refine ⟨x', ?_, hx'⟩
    show fX5_layFar_b162 nf k1 T N R (q + 1) (sI I (m + 22) x) m (ii k) (ii a) = _
    rw [fX5_layFar_b162]
    simp (disch := omega) only [↓nm_v, ↓tg, ↓rA, ↓chk_if, ↓reduceIte, inb_ii, ii_nat, ii_add, and_self, bi_zb, if_bi, if_bi1, ii_leT, ii_leF, ii_ltT, ii_ltF, ii_eqF, ii_m1F, ↓mb_2 hM, ↓mb_3 hM, ↓mb_4 hM, ↓mb_5 hM, ↓mb_6 hM, ↓mb_7 hM, ↓mb_9 hM, ↓mb_10 hM, ↓mb_12 hM, ↓mb_22 hM, ↓mb_24 hM, ↓mb_25 hM, ↓mb_27 hM, ↓mb_28 hM, ↓mb_31 hM, ↓mb_32 hM, ↓mb_33 hM, ↓mb_35 hM, ↓mb_36 hM, ↓mb_37 hM, ↓mb_41 hM, ↓mb_42 hM, ↓mb_43 hM, ↓mb_44 hM, ↓mb_45 hM, ↓mb_46 hM, ↓mb_47 hM, ↓mb_48 hM, ↓mb_49 hM, ↓mb_55 hM, hM]
    exact e
  · intro q x hx
    show fX5_layFar_b162 nf k1 T N R (q + 1) (sI I (m + 22) x) m (ii k) (ii 8) = _
    rw [fX5_layFar_b162]
    simp (disch := omega) only [↓nm_v, ↓tg, ↓rA, ↓chk_if, ↓reduceIte, inb_ii, ii_nat, ii_add, and_self, bi_zb, if_bi, if_bi1, ii_leT, ii_leF, ii_ltT, ii_ltF, ii_eqF, ii_m1F, ↓mb_2 hM, ↓mb_3 hM, ↓mb_4 hM, ↓mb_5 hM, ↓mb_6 hM, ↓mb_7 hM, ↓mb_9 hM, ↓mb_10 hM, ↓mb_12 hM, ↓mb_22 hM, ↓mb_24 hM, ↓mb_25 hM, ↓mb_27 hM, ↓mb_28 hM, ↓mb_31 hM, ↓mb_32 hM, ↓mb_33 hM, ↓mb_35 hM, ↓mb_36 hM, ↓mb_37 hM, ↓mb_41 hM, ↓mb_42 hM, ↓mb_43 hM, ↓mb_44 hM, ↓mb_45 hM, ↓mb_46 hM, ↓mb_47 hM, ↓mb_48 hM, ↓mb_49 hM, ↓mb_55 hM, hM]
theorem m_far3 (hM : MSh m T N R) (hP : GrP n A B W) (hnf : 70 < nf) {x : Nat → Int32} (hx : arN 64 x (fwB 100000000 A B W n 0)) :
    ∃ x', fX5_layFar_b154 nf T N R nf (sI I (m + 22) x) m (ii 0) = some (sI I (m + 22) x') ∧ arN 64 x' (fwB 100000000 A B W n 8) := by
  refine loop_rel (fun q x k => fX5_layFar_b154 nf T N R q (sI I (m + 22) x) m (ii k)) (fun k x => arN 64 x (fwB 100000000 A B W n k)) 8 (fun x => some (sI I (m + 22) x)) ?_ ?_ 8 0 x nf (by omega) (by omega) hx
  · intro q x k hk hx
    obtain ⟨x', e, hx'⟩ := m_far4 (I := I) hM hnf hk (fw_le64 (fwB_ok hP (by omega)).1) (fX5_layFar_b154 nf T N R q) hx
    refine ⟨x', ?_, ?_⟩
    · show fX5_layFar_b154 nf T N R (q + 1) (sI I (m + 22) x) m (ii k) = _
      rw [fX5_layFar_b154]
      simp (disch := omega) only [↓nm_v, ↓tg, ↓rA, ↓chk_if, ↓reduceIte, inb_ii, ii_nat, ii_add, and_self, bi_zb, if_bi, if_bi1, ii_leT, ii_leF, ii_ltT, ii_ltF, ii_eqF, ii_m1F, ↓mb_2 hM, ↓mb_3 hM, ↓mb_4 hM, ↓mb_5 hM, ↓mb_6 hM, ↓mb_7 hM, ↓mb_9 hM, ↓mb_10 hM, ↓mb_12 hM, ↓mb_22 hM, ↓mb_24 hM, ↓mb_25 hM, ↓mb_27 hM, ↓mb_28 hM, ↓mb_31 hM, ↓mb_32 hM, ↓mb_33 hM, ↓mb_35 hM, ↓mb_36 hM, ↓mb_37 hM, ↓mb_41 hM, ↓mb_42 hM, ↓mb_43 hM, ↓mb_44 hM, ↓mb_45 hM, ↓mb_46 hM, ↓mb_47 hM, ↓mb_48 hM, ↓mb_49 hM, ↓mb_55 hM, hM]
      exact e
    · have e2 : fwB 100000000 A B W n (k + 1) = rngF (fwT k) 64 0 (fwB 100000000 A B W n k) := rngF_s _ _ _
      rw [e2]
      exact hx'
  · intro q x hx
    show fX5_layFar_b154 nf T N R (q + 1) (sI I (m + 22) x) m (ii 8) = _
    rw [fX5_layFar_b154]
    simp (disch := omega) only [↓nm_v, ↓tg, ↓rA, ↓chk_if, ↓reduceIte, inb_ii, ii_nat, ii_add, and_self, bi_zb, if_bi, if_bi1, ii_leT, ii_leF, ii_ltT, ii_ltF, ii_eqF, ii_m1F, ↓mb_2 hM, ↓mb_3 hM, ↓mb_4 hM, ↓mb_5 hM, ↓mb_6 hM, ↓mb_7 hM, ↓mb_9 hM, ↓mb_10 hM, ↓mb_12 hM, ↓mb_22 hM, ↓mb_24 hM, ↓mb_25 hM, ↓mb_27 hM, ↓mb_28 hM, ↓mb_31 hM, ↓mb_32 hM, ↓mb_33 hM, ↓mb_35 hM, ↓mb_36 hM, ↓mb_37 hM, ↓mb_41 hM, ↓mb_42 hM, ↓mb_43 hM, ↓mb_44 hM, ↓mb_45 hM, ↓mb_46 hM, ↓mb_47 hM, ↓mb_48 hM, ↓mb_49 hM, ↓mb_55 hM, hM]
theorem m_far2 (hM : MSh m T N R) (hG : GrM I m n A B W) (hP : GrP n A B W) (hnf : 70 < nf) {x : Nat → Int32} (hx : arN 64 x (fwZ 100000000)) :
    ∃ x', fX5_layFar_b40 nf T N R nf (sI I (m + 22) x) m (ii 0) = fX5_layFar_b154 nf T N R nf (sI I (m + 22) x') m (ii 0) ∧ arN 64 x' (fwB 100000000 A B W n 0) := by
  obtain ⟨hn, hA, hB, hne, hW⟩ := hP
  refine loop_rel (fun q x l => fX5_layFar_b40 nf T N R q (sI I (m + 22) x) m (ii l)) (fun l x => arN 64 x (rngF (fwL A B W) l 0 (fwZ 100000000))) n (fun x => fX5_layFar_b154 nf T N R nf (sI I (m + 22) x) m (ii 0)) ?_ ?_ n 0 x nf (by omega) (by omega) hx
  · intro q x l hl hx
    have a1 := hA l hl
    have a2 := hB l hl
    have a3 := hW l hl
    have a4 := hne l hl
    have hle := fwL_le (F := 100000000) (A := A) (B := B) (W := W) (by omega) l (fun l' h => hA l' (by omega)) (fun l' h => hB l' (by omega)) (8 * A l + B l) (by omega)
    have e1 := hx (8 * A l + B l) (by omega)
    refine ⟨upd (upd x (8 * A l + B l) (ii (min (W l) (rngF (fwL A B W) l 0 (fwZ 100000000) (8 * A l + B l))))) (8 * B l + A l) (ii (min (W l) (rngF (fwL A B W) l 0 (fwZ 100000000) (8 * A l + B l)))), ?_, ?_⟩
    · show fX5_layFar_b40 nf T N R (q + 1) (sI I (m + 22) x) m (ii l) = _
      rw [fX5_layFar_b40]
      generalize rngF (fwL A B W) l 0 (fwZ 100000000) = d at hle e1 ⊢
      by_cases h : d (8 * A l + B l) ≤ W l
      · rw [show min (W l) (d (8 * A l + B l)) = d (8 * A l + B l) by omega]
        simp (disch := omega) only [↓nm_v, ↓tg, ↓rA, ↓chk_if, ↓reduceIte, inb_ii, ii_nat, ii_add, and_self, bi_zb, if_bi, if_bi1, ii_leT, ii_leF, ii_ltT, ii_ltF, ii_eqF, ii_m1F, ↓mb_2 hM, ↓mb_3 hM, ↓mb_4 hM, ↓mb_5 hM, ↓mb_6 hM, ↓mb_7 hM, ↓mb_9 hM, ↓mb_10 hM, ↓mb_12 hM, ↓mb_22 hM, ↓mb_24 hM, ↓mb_25 hM, ↓mb_27 hM, ↓mb_28 hM, ↓mb_31 hM, ↓mb_32 hM, ↓mb_33 hM, ↓mb_35 hM, ↓mb_36 hM, ↓mb_37 hM, ↓mb_41 hM, ↓mb_42 hM, ↓mb_43 hM, ↓mb_44 hM, ↓mb_45 hM, ↓mb_46 hM, ↓mb_47 hM, ↓mb_48 hM, ↓mb_49 hM, ↓mb_55 hM, hM, fX5_layFar_b123, ii_mul, sI_ne, sI_at, hG, e1, uI_sI, upd_at]
      · rw [show min (W l) (d (8 * A l + B l)) = W l by omega]
        simp (disch := omega) only [↓nm_v, ↓tg, ↓rA, ↓chk_if, ↓reduceIte, inb_ii, ii_nat, ii_add, and_self, bi_zb, if_bi, if_bi1, ii_leT, ii_leF, ii_ltT, ii_ltF, ii_eqF, ii_m1F, ↓mb_2 hM, ↓mb_3 hM, ↓mb_4 hM, ↓mb_5 hM, ↓mb_6 hM, ↓mb_7 hM, ↓mb_9 hM, ↓mb_10 hM, ↓mb_12 hM, ↓mb_22 hM, ↓mb_24 hM, ↓mb_25 hM, ↓mb_27 hM, ↓mb_28 hM, ↓mb_31 hM, ↓mb_32 hM, ↓mb_33 hM, ↓mb_35 hM, ↓mb_36 hM, ↓mb_37 hM, ↓mb_41 hM, ↓mb_42 hM, ↓mb_43 hM, ↓mb_44 hM, ↓mb_45 hM, ↓mb_46 hM, ↓mb_47 hM, ↓mb_48 hM, ↓mb_49 hM, ↓mb_55 hM, hM, fX5_layFar_b123, ii_mul, sI_ne, sI_at, hG, e1, uI_sI, upd_at]
    · show arN 64 _ (rngF (fwL A B W) (l + 1) 0 (fwZ 100000000))
      rw [rngF_s]
      exact arN_upd (arN_upd hx _ _) _ _
  · intro q x hx
    show fX5_layFar_b40 nf T N R (q + 1) (sI I (m + 22) x) m (ii n) = _
    rw [fX5_layFar_b40]
    simp (disch := omega) only [↓nm_v, ↓tg, ↓rA, ↓chk_if, ↓reduceIte, inb_ii, ii_nat, ii_add, and_self, bi_zb, if_bi, if_bi1, ii_leT, ii_leF, ii_ltT, ii_ltF, ii_eqF, ii_m1F, ↓mb_2 hM, ↓mb_3 hM, ↓mb_4 hM, ↓mb_5 hM, ↓mb_6 hM, ↓mb_7 hM, ↓mb_9 hM, ↓mb_10 hM, ↓mb_12 hM, ↓mb_22 hM, ↓mb_24 hM, ↓mb_25 hM, ↓mb_27 hM, ↓mb_28 hM, ↓mb_31 hM, ↓mb_32 hM, ↓mb_33 hM, ↓mb_35 hM, ↓mb_36 hM, ↓mb_37 hM, ↓mb_41 hM, ↓mb_42 hM, ↓mb_43 hM, ↓mb_44 hM, ↓mb_45 hM, ↓mb_46 hM, ↓mb_47 hM, ↓mb_48 hM, ↓mb_49 hM, ↓mb_55 hM, hM, sI_ne, hG]
theorem m_far1 (hM : MSh m T N R) (hnf : 70 < nf) (x : Nat → Int32) :
    ∃ x', fX5_layFar_b2 nf T N R nf (sI I (m + 22) x) m (ii 0) = fX5_layFar_b40 nf T N R nf (sI I (m + 22) x') m (ii 0) ∧ arN 64 x' (fwZ 100000000) := by
  refine loop_rel (fun q x l => fX5_layFar_b2 nf T N R q (sI I (m + 22) x) m (ii l)) (fun l x => arN l x (fwZ 100000000)) 64 (fun x => fX5_layFar_b40 nf T N R nf (sI I (m + 22) x) m (ii 0)) ?_ ?_ 64 0 x nf (by omega) (by omega) (fun j hj => by omega)
  · intro q x l hl hx
    refine ⟨upd x l (ii (fwZ 100000000 l)), ?_, ?_⟩
    · show fX5_layFar_b2 nf T N R (q + 1) (sI I (m + 22) x) m (ii l) = _
      rw [fX5_layFar_b2]
      unfold fwZ
      by_cases h : l / 8 = l % 8
      · simp (disch := omega) only [↓nm_v, ↓tg, ↓rA, ↓chk_if, ↓reduceIte, inb_ii, ii_nat, ii_add, and_self, bi_zb, if_bi, if_bi1, ii_leT, ii_leF, ii_ltT, ii_ltF, ii_eqF, ii_m1F, ↓mb_2 hM, ↓mb_3 hM, ↓mb_4 hM, ↓mb_5 hM, ↓mb_6 hM, ↓mb_7 hM, ↓mb_9 hM, ↓mb_10 hM, ↓mb_12 hM, ↓mb_22 hM, ↓mb_24 hM, ↓mb_25 hM, ↓mb_27 hM, ↓mb_28 hM, ↓mb_31 hM, ↓mb_32 hM, ↓mb_33 hM, ↓mb_35 hM, ↓mb_36 hM, ↓mb_37 hM, ↓mb_41 hM, ↓mb_42 hM, ↓mb_43 hM, ↓mb_44 hM, ↓mb_45 hM, ↓mb_46 hM, ↓mb_47 hM, ↓mb_48 hM, ↓mb_49 hM, ↓mb_55 hM, hM, ↓ii_rem, ii_div, uI_sI, h]
      · simp (disch := omega) only [↓nm_v, ↓tg, ↓rA, ↓chk_if, ↓reduceIte, inb_ii, ii_nat, ii_add, and_self, bi_zb, if_bi, if_bi1, ii_leT, ii_leF, ii_ltT, ii_ltF, ii_eqF, ii_m1F, ↓mb_2 hM, ↓mb_3 hM, ↓mb_4 hM, ↓mb_5 hM, ↓mb_6 hM, ↓mb_7 hM, ↓mb_9 hM, ↓mb_10 hM, ↓mb_12 hM, ↓mb_22 hM, ↓mb_24 hM, ↓mb_25 hM, ↓mb_27 hM, ↓mb_28 hM, ↓mb_31 hM, ↓mb_32 hM, ↓mb_33 hM, ↓mb_35 hM, ↓mb_36 hM, ↓mb_37 hM, ↓mb_41 hM, ↓mb_42 hM, ↓mb_43 hM, ↓mb_44 hM, ↓mb_45 hM, ↓mb_46 hM, ↓mb_47 hM, ↓mb_48 hM, ↓mb_49 hM, ↓mb_55 hM, hM, ↓ii_rem, ii_div, uI_sI, h]
    · intro j hj
      rw [upd_at]
      by_cases h : j = l
      · rw [if_pos h, h]
      · rw [if_neg h]
        exact hx j (by omega)
  · intro q x hx
    show fX5_layFar_b2 nf T N R (q + 1) (sI I (m + 22) x) m (ii 64) = _
    rw [fX5_layFar_b2]
    simp (disch := omega) only [↓nm_v, ↓tg, ↓rA, ↓chk_if, ↓reduceIte, inb_ii, ii_nat, ii_add, and_self, bi_zb, if_bi, if_bi1, ii_leT, ii_leF, ii_ltT, ii_ltF, ii_eqF, ii_m1F, ↓mb_2 hM, ↓mb_3 hM, ↓mb_4 hM, ↓mb_5 hM, ↓mb_6 hM, ↓mb_7 hM, ↓mb_9 hM, ↓mb_10 hM, ↓mb_12 hM, ↓mb_22 hM, ↓mb_24 hM, ↓mb_25 hM, ↓mb_27 hM, ↓mb_28 hM, ↓mb_31 hM, ↓mb_32 hM, ↓mb_33 hM, ↓mb_35 hM, ↓mb_36 hM, ↓mb_37 hM, ↓mb_41 hM, ↓mb_42 hM, ↓mb_43 hM, ↓mb_44 hM, ↓mb_45 hM, ↓mb_46 hM, ↓mb_47 hM, ↓mb_48 hM, ↓mb_49 hM, ↓mb_55 hM, hM]
/-- the model's square -/
theorem m_layFar (hM : MSh m T N R) (hG : GrM I m n A B W) (hP : GrP n A B W) (hnf : 70 < nf) :
    ∃ x, fX5_layFar nf T N I R m = some (sI I (m + 22) x) ∧ arN 64 x (fwA 100000000 A B W n) := by
  obtain ⟨x1, e1, h1⟩ := m_far1 (I := I) hM hnf (I (m + 22))
  obtain ⟨x2, e2, h2⟩ := m_far2 hM hG hP hnf h1
  obtain ⟨x3, e3, h3⟩ := m_far3 (I := I) hM hP hnf h2
  rw [fwB_8 hP] at h3
  refine ⟨x3, ?_, h3⟩
  unfold fX5_layFar
  rw [sI_id] at e1
  rw [e1, e2, e3]
end
