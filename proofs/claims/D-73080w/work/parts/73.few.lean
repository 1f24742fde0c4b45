/-! PLAIN LAND, 23: few, both sides -/
def agL (n : Nat) (x p : Nat → Int64) : Prop := ∀ j, j < n → x j = p j
theorem loop_dn {α β : Type} (F : Nat → α → Int32 → Option β) (Q : Nat → α → Prop) (n : Nat) (hn : n < 2147483648) (G : α → Option β)
    (hs : ∀ q x i, i < n → Q (i + 1) x → ∃ x', F (q + 1) x (ii i) = F q x' (ii i - ii 1) ∧ Q i x') (hf : ∀ q x, Q 0 x → F (q + 1) x (ii 0 - ii 1) = G x) :
    ∀ (i : Nat) (x : α) (q : Nat), i ≤ n → i < q → Q i x → ∃ x', F q x (ii i - ii 1) = G x' ∧ Q 0 x' := by
  intro i
  induction i with
  | zero =>
    intro x q _ hq hx
    obtain ⟨q, rfl⟩ : ∃ q', q = q' + 1 := ⟨q - 1, by omega⟩
    exact ⟨x, hf q x hx, hx⟩
  | succ i ih =>
    intro x q hi hq hx
    obtain ⟨q, rfl⟩ : ∃ q', q = q' + 1 := ⟨q - 1, by omega⟩
    obtain ⟨x', h1, h2⟩ := hs q x i (by omega) hx
    rw [show ii (i + 1) - ii 1 = ii i from ii_sub (by omega), h1]
    exact ih x' q (by omega) (by omega) h2
theorem dec_sub (i : Nat) : ii i + (-1 : Int32) = ii i - ii 1 := by rw [show (-1 : Int32) = -ii 1 by decide, ← Int32.sub_eq_add_neg]
def fewS (a b : Int64) (i : Nat) (p : Nat → Int64) : Nat → Int64 := fun j => if j = i then p i * b / jj 10 else if j = i + 1 then p (i + 1) + p i * a / jj 10 else p j
def fewR (a b : Int64) (k : Nat) (p : Nat → Int64) : Nat → Nat → Int64
  | 0 => p
  | d + 1 => fewS a b (k - 1 - d) (fewR a b k p d)
def few0 : Nat → Int64 := fun j => if j = 0 then jj 1000000000000 else jj 0
def fewN (a b : Int64) (k n : Nat) : Nat → Int64 := rngF (fun _ p => fewR a b k p k) n 0 few0
def fewA (cr x y : Int32) : Int64 := if rg x 1 20 = true ∧ rg y 0 99 = true then rngF (fun i v => v + fewN cr.toInt64 (ii 10 - cr).toInt64 x.toNatClampNeg y.toNatClampNeg i) x.toNatClampNeg 0 (jj 0) else -1
section
variable {T N : xT} {R : xR} {I : xI} {L : xL} {c s m n nf : Nat} {cr : Int32}
theorem c_few (hC : CSh c s T N R) (hS : StSh s T N R) (hc : I s 11 = cr) (hnf : 300 < nf) (x y : Int32) : ∃ v, fX0_few nf T N I L R c x y = some (fewA cr x y, sL L (c + 38) v) := by
  unfold fX0_few fewA
  cases h1 : rg x 1 20 with
  | false =>
    refine ⟨L (c + 38), ?_⟩
    rw [sL_id]
    simp (disch := omega) only [↓nm_v, ↓tg, ↓rA, ↓chk_if, ↓reduceIte, inb_ii, ii_nat, ii_add, and_self, bi_zb, if_bi, if_bi1, ii_leT, ii_leF, ii_ltT, ii_ltF, ii_eqF, ii_m1F, ↓cb_2 hC, ↓cb_1 hC, ↓cb_3 hC, ↓cb_4 hC, ↓cb_5 hC, ↓cb_6 hC, ↓cb_7 hC, ↓cb_10 hC, ↓cb_17 hC, ↓cb_18 hC, ↓cb_19 hC, ↓cb_20 hC, ↓cb_21 hC, ↓cb_22 hC, ↓cb_23 hC, ↓cb_8 hC, ↓cb_9 hC, ↓cb_24 hC, ↓cb_16 hC, ↓cb29_0 hC, ↓cb29_1 hC, ↓sb_0 hS, ↓sb1_0 hS, ↓sb1_1 hS, ↓sb1_2 hS, ↓sb_1 hS, ↓sb_2 hS, ↓sb_3 hS, ↓sb_4 hS, ↓sb_5 hS, ↓sb_6 hS, ↓sb_7 hS, hC, hS, ↓bn_of (c_i1_20 x), h1, false_and, Bool.false_eq_true]
  | true =>
    cases h2 : rg y 0 99 with
    | false =>
      refine ⟨L (c + 38), ?_⟩
      rw [sL_id]
      simp (disch := omega) only [↓nm_v, ↓tg, ↓rA, ↓chk_if, ↓reduceIte, inb_ii, ii_nat, ii_add, and_self, bi_zb, if_bi, if_bi1, ii_leT, ii_leF, ii_ltT, ii_ltF, ii_eqF, ii_m1F, ↓cb_2 hC, ↓cb_1 hC, ↓cb_3 hC, ↓cb_4 hC, ↓cb_5 hC, ↓cb_6 hC, ↓cb_7 hC, ↓cb_10 hC, ↓cb_17 hC, ↓cb_18 hC, ↓cb_19 hC, ↓cb_20 hC, ↓cb_21 hC, ↓cb_22 hC, ↓cb_23 hC, ↓cb_8 hC, ↓cb_9 hC, ↓cb_24 hC, ↓cb_16 hC, ↓cb29_0 hC, ↓cb29_1 hC, ↓sb_0 hS, ↓sb1_0 hS, ↓sb1_1 hS, ↓sb1_2 hS, ↓sb_1 hS, ↓sb_2 hS, ↓sb_3 hS, ↓sb_4 hS, ↓sb_5 hS, ↓sb_6 hS, ↓sb_7 hS, hC, hS, ↓bn_of (c_i1_20 x), ↓bn_of (c_i0_99 y), h1, h2, and_false, Bool.false_eq_true]
    | true =>
      obtain ⟨n, rfl, hn, _⟩ := rg_ex (hi := 99) h2
      obtain ⟨k, rfl, hk, hk2⟩ : ∃ k : Nat, x = ii k ∧ k ≤ 20 ∧ 1 ≤ k := by
        obtain ⟨g1, g2⟩ := rg_t h1
        obtain ⟨k, g3, g4, g5⟩ := ii_ex (m := 20) (show 0 ≤ x.toInt by omega) g2
        refine ⟨k, g3, by omega, ?_⟩
        rw [g3, ii_toInt g5] at g1
        omega
      simp (disch := omega) only [↓nm_v, ↓tg, ↓rA, ↓chk_if, ↓reduceIte, inb_ii, ii_nat, ii_add, and_self, bi_zb, if_bi, if_bi1, ii_leT, ii_leF, ii_ltT, ii_ltF, ii_eqF, ii_m1F, ↓cb_2 hC, ↓cb_1 hC, ↓cb_3 hC, ↓cb_4 hC, ↓cb_5 hC, ↓cb_6 hC, ↓cb_7 hC, ↓cb_10 hC, ↓cb_17 hC, ↓cb_18 hC, ↓cb_19 hC, ↓cb_20 hC, ↓cb_21 hC, ↓cb_22 hC, ↓cb_23 hC, ↓cb_8 hC, ↓cb_9 hC, ↓cb_24 hC, ↓cb_16 hC, ↓cb29_0 hC, ↓cb29_1 hC, ↓sb_0 hS, ↓sb1_0 hS, ↓sb1_1 hS, ↓sb1_2 hS, ↓sb_1 hS, ↓sb_2 hS, ↓sb_3 hS, ↓sb_4 hS, ↓sb_5 hS, ↓sb_6 hS, ↓sb_7 hS, hC, hS, ↓bn_of (c_i1_20 (ii k)), ↓bn_of (c_i0_99 (ii n)), h1, h2]
      -- the first row
      have r1 := loop_rel (fun q v j => fX0_few_b26 nf T N I R q (sL L (c + 38) v) c (ii k) (ii n) (ii j)) (fun j v => agL j v few0) 21 (fun v => fX0_few_b57 nf T N I R nf (sL L (c + 38) v) c (ii k) (ii n) (ii 0)) ?_ ?_ 21 0 (L (c + 38)) nf (by omega) (by omega) (fun j hj => by omega)
      · obtain ⟨v1, e1, g1⟩ := r1
        have r2 := loop_rel (fun q v r => fX0_few_b57 nf T N I R q (sL L (c + 38) v) c (ii k) (ii n) (ii r)) (fun r v => agL 21 v (fewN cr.toInt64 (ii 10 - cr).toInt64 k r)) n (fun v => fX0_few_b151 nf T N I R nf (sL L (c + 38) v) c (ii k) (jj 0) (ii 0)) ?_ ?_ n 0 v1 nf (by omega) (by omega) g1
        · obtain ⟨v2, e2, g2⟩ := r2
          refine ⟨v2, ?_⟩
          rw [sL_id] at e1
          refine e1.trans (e2.trans ?_)
          refine loop0 (fun q w j => fX0_few_b151 nf T N I R q (sL L (c + 38) v2) c (ii k) w (ii j)) (fun i w => w + fewN cr.toInt64 (ii 10 - cr).toInt64 k n i) k (fun w => some (w, sL L (c + 38) v2)) ?_ ?_ (by omega) (jj 0)
          · intro q w j hj
            have e := g2 j (by omega)
            show fX0_few_b151 nf T N I R (q + 1) (sL L (c + 38) v2) c (ii k) w (ii j) = fX0_few_b151 nf T N I R q (sL L (c + 38) v2) c (ii k) (w + fewN cr.toInt64 (ii 10 - cr).toInt64 k n j) (ii (j + 1))
            rw [fX0_few_b151]
            simp (disch := omega) only [↓nm_v, ↓tg, ↓rA, ↓chk_if, ↓reduceIte, inb_ii, ii_nat, ii_add, and_self, bi_zb, if_bi, if_bi1, ii_leT, ii_leF, ii_ltT, ii_ltF, ii_eqF, ii_m1F, ↓cb_2 hC, ↓cb_1 hC, ↓cb_3 hC, ↓cb_4 hC, ↓cb_5 hC, ↓cb_6 hC, ↓cb_7 hC, ↓cb_10 hC, ↓cb_17 hC, ↓cb_18 hC, ↓cb_19 hC, ↓cb_20 hC, ↓cb_21 hC, ↓cb_22 hC, ↓cb_23 hC, ↓cb_8 hC, ↓cb_9 hC, ↓cb_24 hC, ↓cb_16 hC, ↓cb29_0 hC, ↓cb29_1 hC, ↓sb_0 hS, ↓sb1_0 hS, ↓sb1_1 hS, ↓sb1_2 hS, ↓sb_1 hS, ↓sb_2 hS, ↓sb_3 hS, ↓sb_4 hS, ↓sb_5 hS, ↓sb_6 hS, ↓sb_7 hS, hC, hS, sL_at, e]
          · intro q w
            show fX0_few_b151 nf T N I R (q + 1) (sL L (c + 38) v2) c (ii k) w (ii k) = _
            rw [fX0_few_b151]
            simp (disch := omega) only [↓nm_v, ↓tg, ↓rA, ↓chk_if, ↓reduceIte, inb_ii, ii_nat, ii_add, and_self, bi_zb, if_bi, if_bi1, ii_leT, ii_leF, ii_ltT, ii_ltF, ii_eqF, ii_m1F, ↓cb_2 hC, ↓cb_1 hC, ↓cb_3 hC, ↓cb_4 hC, ↓cb_5 hC, ↓cb_6 hC, ↓cb_7 hC, ↓cb_10 hC, ↓cb_17 hC, ↓cb_18 hC, ↓cb_19 hC, ↓cb_20 hC, ↓cb_21 hC, ↓cb_22 hC, ↓cb_23 hC, ↓cb_8 hC, ↓cb_9 hC, ↓cb_24 hC, ↓cb_16 hC, ↓cb29_0 hC, ↓cb29_1 hC, ↓sb_0 hS, ↓sb1_0 hS, ↓sb1_1 hS, ↓sb1_2 hS, ↓sb_1 hS, ↓sb_2 hS, ↓sb_3 hS, ↓sb_4 hS, ↓sb_5 hS, ↓sb_6 hS, ↓sb_7 hS, hC, hS]
        · intro q v r hr hv
          have r4 : ∃ v', fX0_few_b67 nf (fX0_few_b57 nf T N I R q) T N I R nf (sL L (c + 38) v) c (ii k) (ii n) (ii r) (ii k - ii 1) = fX0_few_b57 nf T N I R q (sL L (c + 38) v') c (ii k) (ii n) (ii (r + 1)) ∧ agL 21 v' (fewR cr.toInt64 (ii 10 - cr).toInt64 k (fewN cr.toInt64 (ii 10 - cr).toInt64 k r) (k - 0)) := by
            refine loop_dn (fun q' v x => fX0_few_b67 nf (fX0_few_b57 nf T N I R q) T N I R q' (sL L (c + 38) v) c (ii k) (ii n) (ii r) x) (fun i v => agL 21 v (fewR cr.toInt64 (ii 10 - cr).toInt64 k (fewN cr.toInt64 (ii 10 - cr).toInt64 k r) (k - i))) k (by omega) (fun v => fX0_few_b57 nf T N I R q (sL L (c + 38) v) c (ii k) (ii n) (ii (r + 1))) ?_ ?_ k v nf (Nat.le_refl _) (by omega) (by rw [Nat.sub_self]; exact hv)
            · intro q' v i hi hv
              have e1 := hv i (by omega)
              have e2 := hv (i + 1) (by omega)
              have n1 : (i = i + 1) = False := eq_false (by omega)
              have n2 : (i + 1 = i) = False := eq_false (by omega)
              refine ⟨vp_updL (vp_updL v (i + 1) (v (i + 1) + v i * cr.toInt64 / jj 10)) i (v i * (ii 10 - cr).toInt64 / jj 10), ?_, ?_⟩
              · show fX0_few_b67 nf (fX0_few_b57 nf T N I R q) T N I R (q' + 1) (sL L (c + 38) v) c (ii k) (ii n) (ii r) (ii i) = _
                rw [fX0_few_b67]
                simp (disch := omega) only [↓nm_v, ↓tg, ↓rA, ↓chk_if, ↓reduceIte, inb_ii, ii_nat, ii_add, and_self, bi_zb, if_bi, if_bi1, ii_leT, ii_leF, ii_ltT, ii_ltF, ii_eqF, ii_m1F, ↓cb_2 hC, ↓cb_1 hC, ↓cb_3 hC, ↓cb_4 hC, ↓cb_5 hC, ↓cb_6 hC, ↓cb_7 hC, ↓cb_10 hC, ↓cb_17 hC, ↓cb_18 hC, ↓cb_19 hC, ↓cb_20 hC, ↓cb_21 hC, ↓cb_22 hC, ↓cb_23 hC, ↓cb_8 hC, ↓cb_9 hC, ↓cb_24 hC, ↓cb_16 hC, ↓cb29_0 hC, ↓cb29_1 hC, ↓sb_0 hS, ↓sb1_0 hS, ↓sb1_1 hS, ↓sb1_2 hS, ↓sb_1 hS, ↓sb_2 hS, ↓sb_3 hS, ↓sb_4 hS, ↓sb_5 hS, ↓sb_6 hS, ↓sb_7 hS, hC, hS, sL_at, uL_sL, hc, updL_at, dec_sub, n1]
              · intro j hj
                rw [show k - i = (k - (i + 1)) + 1 by omega]
                show _ = fewS _ _ (k - 1 - (k - (i + 1))) _ j
                rw [show k - 1 - (k - (i + 1)) = i by omega]
                unfold fewS
                rw [updL_at, updL_at, ← e1, ← e2]
                split
                · rfl
                · split
                  · rfl
                  · exact hv j hj
            · intro q' v _
              show fX0_few_b67 nf (fX0_few_b57 nf T N I R q) T N I R (q' + 1) (sL L (c + 38) v) c (ii k) (ii n) (ii r) (ii 0 - ii 1) = _
              rw [fX0_few_b67, if_pos (by decide)]
              simp (disch := omega) only [↓nm_v, ↓tg, ↓rA, ↓chk_if, ↓reduceIte, inb_ii, ii_nat, ii_add, and_self, bi_zb, if_bi, if_bi1, ii_leT, ii_leF, ii_ltT, ii_ltF, ii_eqF, ii_m1F, ↓cb_2 hC, ↓cb_1 hC, ↓cb_3 hC, ↓cb_4 hC, ↓cb_5 hC, ↓cb_6 hC, ↓cb_7 hC, ↓cb_10 hC, ↓cb_17 hC, ↓cb_18 hC, ↓cb_19 hC, ↓cb_20 hC, ↓cb_21 hC, ↓cb_22 hC, ↓cb_23 hC, ↓cb_8 hC, ↓cb_9 hC, ↓cb_24 hC, ↓cb_16 hC, ↓cb29_0 hC, ↓cb29_1 hC, ↓sb_0 hS, ↓sb1_0 hS, ↓sb1_1 hS, ↓sb1_2 hS, ↓sb_1 hS, ↓sb_2 hS, ↓sb_3 hS, ↓sb_4 hS, ↓sb_5 hS, ↓sb_6 hS, ↓sb_7 hS, hC, hS]
          obtain ⟨v', e4, g4⟩ := r4
          refine ⟨v', ?_, ?_⟩
          · refine Eq.trans ?_ e4
            show fX0_few_b57 nf T N I R (q + 1) (sL L (c + 38) v) c (ii k) (ii n) (ii r) = _
            rw [fX0_few_b57]
            simp (disch := omega) only [↓nm_v, ↓tg, ↓rA, ↓chk_if, ↓reduceIte, inb_ii, ii_nat, ii_add, and_self, bi_zb, if_bi, if_bi1, ii_leT, ii_leF, ii_ltT, ii_ltF, ii_eqF, ii_m1F, ↓cb_2 hC, ↓cb_1 hC, ↓cb_3 hC, ↓cb_4 hC, ↓cb_5 hC, ↓cb_6 hC, ↓cb_7 hC, ↓cb_10 hC, ↓cb_17 hC, ↓cb_18 hC, ↓cb_19 hC, ↓cb_20 hC, ↓cb_21 hC, ↓cb_22 hC, ↓cb_23 hC, ↓cb_8 hC, ↓cb_9 hC, ↓cb_24 hC, ↓cb_16 hC, ↓cb29_0 hC, ↓cb29_1 hC, ↓sb_0 hS, ↓sb1_0 hS, ↓sb1_1 hS, ↓sb1_2 hS, ↓sb_1 hS, ↓sb_2 hS, ↓sb_3 hS, ↓sb_4 hS, ↓sb_5 hS, ↓sb_6 hS, ↓sb_7 hS, hC, hS]
          · show agL 21 v' (fewN _ _ k (r + 1))
            unfold fewN
            rw [rngF_s]
            exact g4
        · intro q v _
          show fX0_few_b57 nf T N I R (q + 1) (sL L (c + 38) v) c (ii k) (ii n) (ii n) = _
          rw [fX0_few_b57]
          simp (disch := omega) only [↓nm_v, ↓tg, ↓rA, ↓chk_if, ↓reduceIte, inb_ii, ii_nat, ii_add, and_self, bi_zb, if_bi, if_bi1, ii_leT, ii_leF, ii_ltT, ii_ltF, ii_eqF, ii_m1F, ↓cb_2 hC, ↓cb_1 hC, ↓cb_3 hC, ↓cb_4 hC, ↓cb_5 hC, ↓cb_6 hC, ↓cb_7 hC, ↓cb_10 hC, ↓cb_17 hC, ↓cb_18 hC, ↓cb_19 hC, ↓cb_20 hC, ↓cb_21 hC, ↓cb_22 hC, ↓cb_23 hC, ↓cb_8 hC, ↓cb_9 hC, ↓cb_24 hC, ↓cb_16 hC, ↓cb29_0 hC, ↓cb29_1 hC, ↓sb_0 hS, ↓sb1_0 hS, ↓sb1_1 hS, ↓sb1_2 hS, ↓sb_1 hS, ↓sb_2 hS, ↓sb_3 hS, ↓sb_4 hS, ↓sb_5 hS, ↓sb_6 hS, ↓sb_7 hS, hC, hS]
      · intro q v j hj hv
        refine ⟨vp_updL v j (few0 j), ?_, ?_⟩
        · show fX0_few_b26 nf T N I R (q + 1) (sL L (c + 38) v) c (ii k) (ii n) (ii j) = _
          rw [fX0_few_b26]
          unfold few0
          by_cases h : j = 0
          · simp (disch := omega) only [↓nm_v, ↓tg, ↓rA, ↓chk_if, ↓reduceIte, inb_ii, ii_nat, ii_add, and_self, bi_zb, if_bi, if_bi1, ii_leT, ii_leF, ii_ltT, ii_ltF, ii_eqF, ii_m1F, ↓cb_2 hC, ↓cb_1 hC, ↓cb_3 hC, ↓cb_4 hC, ↓cb_5 hC, ↓cb_6 hC, ↓cb_7 hC, ↓cb_10 hC, ↓cb_17 hC, ↓cb_18 hC, ↓cb_19 hC, ↓cb_20 hC, ↓cb_21 hC, ↓cb_22 hC, ↓cb_23 hC, ↓cb_8 hC, ↓cb_9 hC, ↓cb_24 hC, ↓cb_16 hC, ↓cb29_0 hC, ↓cb29_1 hC, ↓sb_0 hS, ↓sb1_0 hS, ↓sb1_1 hS, ↓sb1_2 hS, ↓sb_1 hS, ↓sb_2 hS, ↓sb_3 hS, ↓sb_4 hS, ↓sb_5 hS, ↓sb_6 hS, ↓sb_7 hS, hC, hS, h, uL_sL]
          · simp (disch := omega) only [↓nm_v, ↓tg, ↓rA, ↓chk_if, ↓reduceIte, inb_ii, ii_nat, ii_add, and_self, bi_zb, if_bi, if_bi1, ii_leT, ii_leF, ii_ltT, ii_ltF, ii_eqF, ii_m1F, ↓cb_2 hC, ↓cb_1 hC, ↓cb_3 hC, ↓cb_4 hC, ↓cb_5 hC, ↓cb_6 hC, ↓cb_7 hC, ↓cb_10 hC, ↓cb_17 hC, ↓cb_18 hC, ↓cb_19 hC, ↓cb_20 hC, ↓cb_21 hC, ↓cb_22 hC, ↓cb_23 hC, ↓cb_8 hC, ↓cb_9 hC, ↓cb_24 hC, ↓cb_16 hC, ↓cb29_0 hC, ↓cb29_1 hC, ↓sb_0 hS, ↓sb1_0 hS, ↓sb1_1 hS, ↓sb1_2 hS, ↓sb_1 hS, ↓sb_2 hS, ↓sb_3 hS, ↓sb_4 hS, ↓sb_5 hS, ↓sb_6 hS, ↓sb_7 hS, hC, hS, h, uL_sL]
        · intro j' hj'
          rw [updL_at]
          split
          · rename_i h
            rw [h]
          · exact hv j' (by omega)
      · intro q v _
        show fX0_few_b26 nf T N I R (q + 1) (sL L (c + 38) v) c (ii k) (ii n) (ii 21) = _
        rw [fX0_few_b26]
        simp (disch := omega) only [↓nm_v, ↓tg, ↓rA, ↓chk_if, ↓reduceIte, inb_ii, ii_nat, ii_add, and_self, bi_zb, if_bi, if_bi1, ii_leT, ii_leF, ii_ltT, ii_ltF, ii_eqF, ii_m1F, ↓cb_2 hC, ↓cb_1 hC, ↓cb_3 hC, ↓cb_4 hC, ↓cb_5 hC, ↓cb_6 hC, ↓cb_7 hC, ↓cb_10 hC, ↓cb_17 hC, ↓cb_18 hC, ↓cb_19 hC, ↓cb_20 hC, ↓cb_21 hC, ↓cb_22 hC, ↓cb_23 hC, ↓cb_8 hC, ↓cb_9 hC, ↓cb_24 hC, ↓cb_16 hC, ↓cb29_0 hC, ↓cb29_1 hC, ↓sb_0 hS, ↓sb1_0 hS, ↓sb1_1 hS, ↓sb1_2 hS, ↓sb_1 hS, ↓sb_2 hS, ↓sb_3 hS, ↓sb_4 hS, ↓sb_5 hS, ↓sb_6 hS, ↓sb_7 hS, hC, hS]
theorem m_few (hM : MSh m T N R) (hc : I (m + 2) 6 = cr) (hnf : 300 < nf) (x y : Int32) : ∃ v, fX5_few nf T N I L R m x y = some (fewA cr x y, uI I m 0 (ii 0), sL L (m + 27) v) := by
  have hc : uI I m 0 (ii 0) (m + 2) 6 = cr := by rw [uI_ne (by omega)]; exact hc
  unfold fX5_few fewA
  cases h1 : rg x 1 20 with
  | false =>
    refine ⟨L (m + 27), ?_⟩
    rw [sL_id]
    simp (disch := omega) only [↓nm_v, ↓tg, ↓rA, ↓chk_if, ↓reduceIte, inb_ii, ii_nat, ii_add, and_self, bi_zb, if_bi, if_bi1, ii_leT, ii_leF, ii_ltT, ii_ltF, ii_eqF, ii_m1F, ↓mb_2 hM, ↓mb_3 hM, ↓mb_4 hM, ↓mb_5 hM, ↓mb_6 hM, ↓mb_7 hM, ↓mb_9 hM, ↓mb_10 hM, ↓mb_12 hM, ↓mb_22 hM, ↓mb_24 hM, ↓mb_25 hM, ↓mb_27 hM, ↓mb_28 hM, ↓mb_31 hM, ↓mb_32 hM, ↓mb_33 hM, ↓mb_35 hM, ↓mb_36 hM, ↓mb_37 hM, ↓mb_41 hM, ↓mb_42 hM, ↓mb_43 hM, ↓mb_44 hM, ↓mb_45 hM, ↓mb_46 hM, ↓mb_47 hM, ↓mb_48 hM, ↓mb_49 hM, ↓mb_55 hM, hM, ↓bn_of (m_i1_20 x), h1, false_and, Bool.false_eq_true]
  | true =>
    cases h2 : rg y 0 99 with
    | false =>
      refine ⟨L (m + 27), ?_⟩
      rw [sL_id]
      simp (disch := omega) only [↓nm_v, ↓tg, ↓rA, ↓chk_if, ↓reduceIte, inb_ii, ii_nat, ii_add, and_self, bi_zb, if_bi, if_bi1, ii_leT, ii_leF, ii_ltT, ii_ltF, ii_eqF, ii_m1F, ↓mb_2 hM, ↓mb_3 hM, ↓mb_4 hM, ↓mb_5 hM, ↓mb_6 hM, ↓mb_7 hM, ↓mb_9 hM, ↓mb_10 hM, ↓mb_12 hM, ↓mb_22 hM, ↓mb_24 hM, ↓mb_25 hM, ↓mb_27 hM, ↓mb_28 hM, ↓mb_31 hM, ↓mb_32 hM, ↓mb_33 hM, ↓mb_35 hM, ↓mb_36 hM, ↓mb_37 hM, ↓mb_41 hM, ↓mb_42 hM, ↓mb_43 hM, ↓mb_44 hM, ↓mb_45 hM, ↓mb_46 hM, ↓mb_47 hM, ↓mb_48 hM, ↓mb_49 hM, ↓mb_55 hM, hM, ↓bn_of (m_i1_20 x), ↓bn_of (m_i0_99 y), h1, h2, and_false, Bool.false_eq_true]
    | true =>
      obtain ⟨n, rfl, hn, _⟩ := rg_ex (hi := 99) h2
      obtain ⟨k, rfl, hk, hk2⟩ : ∃ k : Nat, x = ii k ∧ k ≤ 20 ∧ 1 ≤ k := by
        obtain ⟨g1, g2⟩ := rg_t h1
        obtain ⟨k, g3, g4, g5⟩ := ii_ex (m := 20) (show 0 ≤ x.toInt by omega) g2
        refine ⟨k, g3, by omega, ?_⟩
        rw [g3, ii_toInt g5] at g1
        omega
      simp (disch := omega) only [↓nm_v, ↓tg, ↓rA, ↓chk_if, ↓reduceIte, inb_ii, ii_nat, ii_add, and_self, bi_zb, if_bi, if_bi1, ii_leT, ii_leF, ii_ltT, ii_ltF, ii_eqF, ii_m1F, ↓mb_2 hM, ↓mb_3 hM, ↓mb_4 hM, ↓mb_5 hM, ↓mb_6 hM, ↓mb_7 hM, ↓mb_9 hM, ↓mb_10 hM, ↓mb_12 hM, ↓mb_22 hM, ↓mb_24 hM, ↓mb_25 hM, ↓mb_27 hM, ↓mb_28 hM, ↓mb_31 hM, ↓mb_32 hM, ↓mb_33 hM, ↓mb_35 hM, ↓mb_36 hM, ↓mb_37 hM, ↓mb_41 hM, ↓mb_42 hM, ↓mb_43 hM, ↓mb_44 hM, ↓mb_45 hM, ↓mb_46 hM, ↓mb_47 hM, ↓mb_48 hM, ↓mb_49 hM, ↓mb_55 hM, hM, ↓bn_of (m_i1_20 (ii k)), ↓bn_of (m_i0_99 (ii n)), h1, h2]
      generalize uI I m 0 (ii 0) = J at hc ⊢
      have r1 := loop_rel (fun q v j => fX5_few_b35 nf T N R q J (sL L (m + 27) v) m (ii k) (ii n) (ii j)) (fun j v => agL j v few0) 21 (fun v => fX5_few_b75 nf T N R nf J (sL L (m + 27) v) m (ii k) (ii n) cr (ii 0)) ?_ ?_ 21 0 (L (m + 27)) nf (by omega) (by omega) (fun j hj => by omega)
      · obtain ⟨v1, e1, g1⟩ := r1
        have r2 := loop_rel (fun q v r => fX5_few_b75 nf T N R q J (sL L (m + 27) v) m (ii k) (ii n) cr (ii r)) (fun r v => agL 21 v (fewN cr.toInt64 (ii 10 - cr).toInt64 k r)) n (fun v => fX5_few_b158 nf T N R nf J (sL L (m + 27) v) m (ii k) (jj 0) (ii 0)) ?_ ?_ n 0 v1 nf (by omega) (by omega) g1
        · obtain ⟨v2, e2, g2⟩ := r2
          refine ⟨v2, ?_⟩
          rw [sL_id] at e1
          refine e1.trans (e2.trans ?_)
          refine loop0 (fun q w j => fX5_few_b158 nf T N R q J (sL L (m + 27) v2) m (ii k) w (ii j)) (fun i w => w + fewN cr.toInt64 (ii 10 - cr).toInt64 k n i) k (fun w => some (w, J, sL L (m + 27) v2)) ?_ ?_ (by omega) (jj 0)
          · intro q w j hj
            have e := g2 j (by omega)
            show fX5_few_b158 nf T N R (q + 1) J (sL L (m + 27) v2) m (ii k) w (ii j) = fX5_few_b158 nf T N R q J (sL L (m + 27) v2) m (ii k) (w + fewN cr.toInt64 (ii 10 - cr).toInt64 k n j) (ii (j + 1))
            rw [fX5_few_b158]
            simp (disch := omega) only [↓nm_v, ↓tg, ↓rA, ↓chk_if, ↓reduceIte, inb_ii, ii_nat, ii_add, and_self, bi_zb, if_bi, if_bi1, ii_leT, ii_leF, ii_ltT, ii_ltF, ii_eqF, ii_m1F, ↓mb_2 hM, ↓mb_3 hM, ↓mb_4 hM, ↓mb_5 hM, ↓mb_6 hM, ↓mb_7 hM, ↓mb_9 hM, ↓mb_10 hM, ↓mb_12 hM, ↓mb_22 hM, ↓mb_24 hM, ↓mb_25 hM, ↓mb_27 hM, ↓mb_28 hM, ↓mb_31 hM, ↓mb_32 hM, ↓mb_33 hM, ↓mb_35 hM, ↓mb_36 hM, ↓mb_37 hM, ↓mb_41 hM, ↓mb_42 hM, ↓mb_43 hM, ↓mb_44 hM, ↓mb_45 hM, ↓mb_46 hM, ↓mb_47 hM, ↓mb_48 hM, ↓mb_49 hM, ↓mb_55 hM, hM, sL_at, e]
          · intro q w
            show fX5_few_b158 nf T N R (q + 1) J (sL L (m + 27) v2) m (ii k) w (ii k) = _
            rw [fX5_few_b158]
            simp (disch := omega) only [↓nm_v, ↓tg, ↓rA, ↓chk_if, ↓reduceIte, inb_ii, ii_nat, ii_add, and_self, bi_zb, if_bi, if_bi1, ii_leT, ii_leF, ii_ltT, ii_ltF, ii_eqF, ii_m1F, ↓mb_2 hM, ↓mb_3 hM, ↓mb_4 hM, ↓mb_5 hM, ↓mb_6 hM, ↓mb_7 hM, ↓mb_9 hM, ↓mb_10 hM, ↓mb_12 hM, ↓mb_22 hM, ↓mb_24 hM, ↓mb_25 hM, ↓mb_27 hM, ↓mb_28 hM, ↓mb_31 hM, ↓mb_32 hM, ↓mb_33 hM, ↓mb_35 hM, ↓mb_36 hM, ↓mb_37 hM, ↓mb_41 hM, ↓mb_42 hM, ↓mb_43 hM, ↓mb_44 hM, ↓mb_45 hM, ↓mb_46 hM, ↓mb_47 hM, ↓mb_48 hM, ↓mb_49 hM, ↓mb_55 hM, hM]
        · intro q v r hr hv
          have r4 : ∃ v', fX5_few_b86 nf (fX5_few_b75 nf T N R q) T N R nf J (sL L (m + 27) v) m (ii k) (ii n) cr (ii r) (ii k - ii 1) = fX5_few_b75 nf T N R q J (sL L (m + 27) v') m (ii k) (ii n) cr (ii (r + 1)) ∧ agL 21 v' (fewR cr.toInt64 (ii 10 - cr).toInt64 k (fewN cr.toInt64 (ii 10 - cr).toInt64 k r) (k - 0)) := by
            refine loop_dn (fun q' v x => fX5_few_b86 nf (fX5_few_b75 nf T N R q) T N R q' J (sL L (m + 27) v) m (ii k) (ii n) cr (ii r) x) (fun i v => agL 21 v (fewR cr.toInt64 (ii 10 - cr).toInt64 k (fewN cr.toInt64 (ii 10 - cr).toInt64 k r) (k - i))) k (by omega) (fun v => fX5_few_b75 nf T N R q J (sL L (m + 27) v) m (ii k) (ii n) cr (ii (r + 1))) ?_ ?_ k v nf (Nat.le_refl _) (by omega) (by rw [Nat.sub_self]; exact hv)
            · intro q' v i hi hv
              have e1 := hv i (by omega)
              have e2 := hv (i + 1) (by omega)
              have n1 : (i = i + 1) = False := eq_false (by omega)
              have n2 : (i + 1 = i) = False := eq_false (by omega)
              refine ⟨vp_updL (vp_updL v i (v i * (ii 10 - cr).toInt64 / jj 10)) (i + 1) (v (i + 1) + v i * cr.toInt64 / jj 10), ?_, ?_⟩
              · show fX5_few_b86 nf (fX5_few_b75 nf T N R q) T N R (q' + 1) J (sL L (m + 27) v) m (ii k) (ii n) cr (ii r) (ii i) = _
                rw [fX5_few_b86]
                simp (disch := omega) only [↓nm_v, ↓tg, ↓rA, ↓chk_if, ↓reduceIte, inb_ii, ii_nat, ii_add, and_self, bi_zb, if_bi, if_bi1, ii_leT, ii_leF, ii_ltT, ii_ltF, ii_eqF, ii_m1F, ↓mb_2 hM, ↓mb_3 hM, ↓mb_4 hM, ↓mb_5 hM, ↓mb_6 hM, ↓mb_7 hM, ↓mb_9 hM, ↓mb_10 hM, ↓mb_12 hM, ↓mb_22 hM, ↓mb_24 hM, ↓mb_25 hM, ↓mb_27 hM, ↓mb_28 hM, ↓mb_31 hM, ↓mb_32 hM, ↓mb_33 hM, ↓mb_35 hM, ↓mb_36 hM, ↓mb_37 hM, ↓mb_41 hM, ↓mb_42 hM, ↓mb_43 hM, ↓mb_44 hM, ↓mb_45 hM, ↓mb_46 hM, ↓mb_47 hM, ↓mb_48 hM, ↓mb_49 hM, ↓mb_55 hM, hM, sL_at, uL_sL, hc, updL_at, dec_sub, n2]
              · intro j hj
                rw [show k - i = (k - (i + 1)) + 1 by omega]
                show _ = fewS _ _ (k - 1 - (k - (i + 1))) _ j
                rw [show k - 1 - (k - (i + 1)) = i by omega]
                unfold fewS
                rw [updL_at, updL_at, ← e1, ← e2]
                by_cases h1 : j = i
                · rw [if_neg (by omega), if_pos h1, if_pos h1]
                · by_cases h2 : j = i + 1
                  · rw [if_pos h2, if_neg h1, if_pos h2]
                  · rw [if_neg h2, if_neg h1, if_neg h1, if_neg h2]
                    exact hv j hj
            · intro q' v _
              show fX5_few_b86 nf (fX5_few_b75 nf T N R q) T N R (q' + 1) J (sL L (m + 27) v) m (ii k) (ii n) cr (ii r) (ii 0 - ii 1) = _
              rw [fX5_few_b86, if_pos (by decide)]
              simp (disch := omega) only [↓nm_v, ↓tg, ↓rA, ↓chk_if, ↓reduceIte, inb_ii, ii_nat, ii_add, and_self, bi_zb, if_bi, if_bi1, ii_leT, ii_leF, ii_ltT, ii_ltF, ii_eqF, ii_m1F, ↓mb_2 hM, ↓mb_3 hM, ↓mb_4 hM, ↓mb_5 hM, ↓mb_6 hM, ↓mb_7 hM, ↓mb_9 hM, ↓mb_10 hM, ↓mb_12 hM, ↓mb_22 hM, ↓mb_24 hM, ↓mb_25 hM, ↓mb_27 hM, ↓mb_28 hM, ↓mb_31 hM, ↓mb_32 hM, ↓mb_33 hM, ↓mb_35 hM, ↓mb_36 hM, ↓mb_37 hM, ↓mb_41 hM, ↓mb_42 hM, ↓mb_43 hM, ↓mb_44 hM, ↓mb_45 hM, ↓mb_46 hM, ↓mb_47 hM, ↓mb_48 hM, ↓mb_49 hM, ↓mb_55 hM, hM]
          obtain ⟨v', e4, g4⟩ := r4
          refine ⟨v', ?_, ?_⟩
          · refine Eq.trans ?_ e4
            show fX5_few_b75 nf T N R (q + 1) J (sL L (m + 27) v) m (ii k) (ii n) cr (ii r) = _
            rw [fX5_few_b75]
            simp (disch := omega) only [↓nm_v, ↓tg, ↓rA, ↓chk_if, ↓reduceIte, inb_ii, ii_nat, ii_add, and_self, bi_zb, if_bi, if_bi1, ii_leT, ii_leF, ii_ltT, ii_ltF, ii_eqF, ii_m1F, ↓mb_2 hM, ↓mb_3 hM, ↓mb_4 hM, ↓mb_5 hM, ↓mb_6 hM, ↓mb_7 hM, ↓mb_9 hM, ↓mb_10 hM, ↓mb_12 hM, ↓mb_22 hM, ↓mb_24 hM, ↓mb_25 hM, ↓mb_27 hM, ↓mb_28 hM, ↓mb_31 hM, ↓mb_32 hM, ↓mb_33 hM, ↓mb_35 hM, ↓mb_36 hM, ↓mb_37 hM, ↓mb_41 hM, ↓mb_42 hM, ↓mb_43 hM, ↓mb_44 hM, ↓mb_45 hM, ↓mb_46 hM, ↓mb_47 hM, ↓mb_48 hM, ↓mb_49 hM, ↓mb_55 hM, hM]
          · show agL 21 v' (fewN _ _ k (r + 1))
            unfold fewN
            rw [rngF_s]
            exact g4
        · intro q v _
          show fX5_few_b75 nf T N R (q + 1) J (sL L (m + 27) v) m (ii k) (ii n) cr (ii n) = _
          rw [fX5_few_b75]
          simp (disch := omega) only [↓nm_v, ↓tg, ↓rA, ↓chk_if, ↓reduceIte, inb_ii, ii_nat, ii_add, and_self, bi_zb, if_bi, if_bi1, ii_leT, ii_leF, ii_ltT, ii_ltF, ii_eqF, ii_m1F, ↓mb_2 hM, ↓mb_3 hM, ↓mb_4 hM, ↓mb_5 hM, ↓mb_6 hM, ↓mb_7 hM, ↓mb_9 hM, ↓mb_10 hM, ↓mb_12 hM, ↓mb_22 hM, ↓mb_24 hM, ↓mb_25 hM, ↓mb_27 hM, ↓mb_28 hM, ↓mb_31 hM, ↓mb_32 hM, ↓mb_33 hM, ↓mb_35 hM, ↓mb_36 hM, ↓mb_37 hM, ↓mb_41 hM, ↓mb_42 hM, ↓mb_43 hM, ↓mb_44 hM, ↓mb_45 hM, ↓mb_46 hM, ↓mb_47 hM, ↓mb_48 hM, ↓mb_49 hM, ↓mb_55 hM, hM]
      · intro q v j hj hv
        refine ⟨vp_updL v j (few0 j), ?_, ?_⟩
        · show fX5_few_b35 nf T N R (q + 1) J (sL L (m + 27) v) m (ii k) (ii n) (ii j) = _
          rw [fX5_few_b35]
          unfold few0
          by_cases h : j = 0
          · simp (disch := omega) only [↓nm_v, ↓tg, ↓rA, ↓chk_if, ↓reduceIte, inb_ii, ii_nat, ii_add, and_self, bi_zb, if_bi, if_bi1, ii_leT, ii_leF, ii_ltT, ii_ltF, ii_eqF, ii_m1F, ↓mb_2 hM, ↓mb_3 hM, ↓mb_4 hM, ↓mb_5 hM, ↓mb_6 hM, ↓mb_7 hM, ↓mb_9 hM, ↓mb_10 hM, ↓mb_12 hM, ↓mb_22 hM, ↓mb_24 hM, ↓mb_25 hM, ↓mb_27 hM, ↓mb_28 hM, ↓mb_31 hM, ↓mb_32 hM, ↓mb_33 hM, ↓mb_35 hM, ↓mb_36 hM, ↓mb_37 hM, ↓mb_41 hM, ↓mb_42 hM, ↓mb_43 hM, ↓mb_44 hM, ↓mb_45 hM, ↓mb_46 hM, ↓mb_47 hM, ↓mb_48 hM, ↓mb_49 hM, ↓mb_55 hM, hM, h, uL_sL]
          · simp (disch := omega) only [↓nm_v, ↓tg, ↓rA, ↓chk_if, ↓reduceIte, inb_ii, ii_nat, ii_add, and_self, bi_zb, if_bi, if_bi1, ii_leT, ii_leF, ii_ltT, ii_ltF, ii_eqF, ii_m1F, ↓mb_2 hM, ↓mb_3 hM, ↓mb_4 hM, ↓mb_5 hM, ↓mb_6 hM, ↓mb_7 hM, ↓mb_9 hM, ↓mb_10 hM, ↓mb_12 hM, ↓mb_22 hM, ↓mb_24 hM, ↓mb_25 hM, ↓mb_27 hM, ↓mb_28 hM, ↓mb_31 hM, ↓mb_32 hM, ↓mb_33 hM, ↓mb_35 hM, ↓mb_36 hM, ↓mb_37 hM, ↓mb_41 hM, ↓mb_42 hM, ↓mb_43 hM, ↓mb_44 hM, ↓mb_45 hM, ↓mb_46 hM, ↓mb_47 hM, ↓mb_48 hM, ↓mb_49 hM, ↓mb_55 hM, hM, h, uL_sL]
        · intro j' hj'
          rw [updL_at]
          split
          · rename_i h
            rw [h]
          · exact hv j' (by omega)
      · intro q v _
        show fX5_few_b35 nf T N R (q + 1) J (sL L (m + 27) v) m (ii k) (ii n) (ii 21) = _
        rw [fX5_few_b35]
        simp (disch := omega) only [↓nm_v, ↓tg, ↓rA, ↓chk_if, ↓reduceIte, inb_ii, ii_nat, ii_add, and_self, bi_zb, if_bi, if_bi1, ii_leT, ii_leF, ii_ltT, ii_ltF, ii_eqF, ii_m1F, ↓mb_2 hM, ↓mb_3 hM, ↓mb_4 hM, ↓mb_5 hM, ↓mb_6 hM, ↓mb_7 hM, ↓mb_9 hM, ↓mb_10 hM, ↓mb_12 hM, ↓mb_22 hM, ↓mb_24 hM, ↓mb_25 hM, ↓mb_27 hM, ↓mb_28 hM, ↓mb_31 hM, ↓mb_32 hM, ↓mb_33 hM, ↓mb_35 hM, ↓mb_36 hM, ↓mb_37 hM, ↓mb_41 hM, ↓mb_42 hM, ↓mb_43 hM, ↓mb_44 hM, ↓mb_45 hM, ↓mb_46 hM, ↓mb_47 hM, ↓mb_48 hM, ↓mb_49 hM, ↓mb_55 hM, hM, hc]
end
