/-! PLAIN LAND, 17: ways by names heard, both sides -/
theorem uI_sI2 (I : xI) {a b : Nat} (q : a ≠ b) (k : Nat) (v : Int32) (x y : Nat → Int32) : uI (sI (sI I a x) b y) a k v = sI (sI I a (upd x k v)) b y := by
  funext z; unfold uI sI
  by_cases h1 : z = a
  · subst h1; simp [q]
  · by_cases h2 : z = b <;> simp [h1, h2, Ne.symm q]
theorem cpI_s (I : xI) (a b n : Nat) : cpI I a 0 b 0 n = sI I b (va_cpy (I a) (I b) 0 0 n) := rfl
theorem sI2 (I : xI) {a b : Nat} (q : a ≠ b) (x x' y : Nat → Int32) : sI (sI (sI I a x) b y) a x' = sI (sI I a x') b y := by
  funext z; unfold sI
  by_cases h1 : z = a
  · subst h1; simp [q]
  · by_cases h2 : z = b <;> simp [h1, h2, Ne.symm q]
theorem arN_cpy {n : Nat} {x y : Nat → Int32} {d : Nat → Nat} (h : arN n y d) : arN n (va_cpy y x 0 0 n) d := by
  intro j hj
  unfold va_cpy
  rw [if_pos (by omega), show 0 + (j - 0) = j by omega]
  exact h j hj
/-- bits of what holds -/
def bitS (p : Nat → Bool) (o : Nat) (v : Int32) : Int32 := v ||| (if p o = true then ii 1 <<< (ii o &&& ii 31) else ii 0)
def bitsOf (p : Nat → Bool) : Int32 := rngF (bitS p) 8 0 (ii 0)
theorem bits_congr {p q : Nat → Bool} (h : ∀ o, o < 8 → p o = q o) : bitsOf p = bitsOf q := by
  unfold bitsOf
  apply rngF_congr
  intro j x _ hj
  unfold bitS
  rw [h j (by omega)]
theorem or_0 (x : Int32) : x ||| ii 0 = x := Int32.or_zero
theorem if_or (a b : Bool) (x : Int32) : (if (a || b) = true then x else ii 0) = (if a = true then x else ii 0) ||| (if b = true then x else ii 0) := by
  cases a <;> cases b <;> simp [or_0, Int32.or_self] <;> exact (Int32.or_comm _ _).trans (or_0 _) |>.symm
theorem bits_or (p q : Nat → Bool) : rngF (bitS p) 8 0 (bitsOf q) = bitsOf (fun o => q o || p o) := by
  unfold bitsOf
  simp only [rngF, bitS, if_or]
  ac_rfl
section
variable {T N : xT} {R : xR} {I : xI} {c s m n nf hh : Nat} {A B W : Nat → Nat} {Nm Hd : Nat → Int32}
theorem c_ways5 (hC : CSh c s T N R) (hS : StSh s T N R) (hs : s = c + 2) (hG : GrC I s n A B W) (hP : GrP n A B W) (hN : ∀ l, l < n → I (s + 4) l = Nm l) (hnf : 70 < nf) (kk : xI → Nat → Int32 → Int32 → Option xI) (z nm : Int32) (k : Nat) {on : Nat → Bool} (ho : ∀ l, l < n → on l = decide (Nm l = nm)) {x y : Nat → Int32} {v : Nat → Nat} (hx : arN 8 x v) (hy : arN 8 y (fun _ => 0)) :
    ∃ x' y', fX0_laysWays_b89 nf kk T N R nf (sI (sI I (c + 35) x) (c + 36) y) c z (ii k) nm (ii 0) = kk (sI (sI I (c + 35) x') (c + 36) y') c z (ii (k + 1)) ∧ arN 8 x' (wyT A B on n v) := by
  obtain ⟨hn, hA, hB, hne, _⟩ := hP
  have := loop_rel (fun q y l => fX0_laysWays_b89 nf kk T N R q (sI (sI I (c + 35) x) (c + 36) y) c z (ii k) nm (ii l)) (fun l y => arN 8 y (rngF (wyS A B on v) l 0 (fun _ => 0))) n (fun y => kk (sI (sI I (c + 35) (va_cpy y x 0 0 8)) (c + 36) y) c z (ii (k + 1))) ?_ ?_ n 0 y nf (by omega) (by omega) hy
  · obtain ⟨y', e, h⟩ := this
    exact ⟨_, y', e, arN_cpy h⟩
  · intro q y l hl hy
    have a1 := hA l hl
    have a2 := hB l hl
    have a3 := hne l hl
    have e1 := hy (B l) a2
    have e2 := hy (A l) a1
    have e3 := hx (A l) a1
    have e4 := hx (B l) a2
    have e5 := hN l hl
    by_cases h : Nm l = nm
    · refine ⟨upd (upd y (B l) (ii (rngF (wyS A B on v) l 0 (fun _ => 0) (B l) + v (A l)))) (A l) (ii (rngF (wyS A B on v) l 0 (fun _ => 0) (A l) + v (B l))), ?_, ?_⟩
      · show fX0_laysWays_b89 nf kk T N R (q + 1) (sI (sI I (c + 35) x) (c + 36) y) c z (ii k) nm (ii l) = _
        rw [fX0_laysWays_b89]
        generalize rngF (wyS A B on v) l 0 (fun _ => 0) = d at e1 e2 ⊢
        simp (disch := omega) only [↓nm_v, ↓tg, ↓rA, ↓chk_if, ↓reduceIte, inb_ii, ii_nat, ii_add, and_self, bi_zb, if_bi, if_bi1, ii_leT, ii_leF, ii_ltT, ii_ltF, ii_eqF, ii_m1F, ↓cb_2 hC, ↓cb_1 hC, ↓cb_3 hC, ↓cb_4 hC, ↓cb_5 hC, ↓cb_6 hC, ↓cb_7 hC, ↓cb_10 hC, ↓cb_17 hC, ↓cb_18 hC, ↓cb_19 hC, ↓cb_20 hC, ↓cb_21 hC, ↓cb_22 hC, ↓cb_23 hC, ↓cb_8 hC, ↓cb_9 hC, ↓cb_24 hC, ↓cb_16 hC, ↓cb29_0 hC, ↓cb29_1 hC, ↓sb_0 hS, ↓sb1_0 hS, ↓sb1_1 hS, ↓sb1_2 hS, ↓sb_1 hS, ↓sb_2 hS, ↓sb_3 hS, ↓sb_4 hS, ↓sb_5 hS, ↓sb_6 hS, ↓sb_7 hS, hC, hS, fX0_table, ↓bn_e, sI_ne, sI_at, hG, e1, e2, e3, e4, e5, h, uI_sI, upd_at, a3]
      · show arN 8 _ (rngF (wyS A B on v) (l + 1) 0 (fun _ => 0))
        rw [rngF_s]
        have := arN_upd (arN_upd hy (B l) (rngF (wyS A B on v) l 0 (fun _ => 0) (B l) + v (A l))) (A l) (rngF (wyS A B on v) l 0 (fun _ => 0) (A l) + v (B l))
        generalize rngF (wyS A B on v) l 0 (fun _ => 0) = d at this ⊢
        unfold wyS
        rw [ho l hl, decide_eq_true h, if_pos rfl, updN_at d (B l) _ (A l), if_neg a3]
        exact this
    · refine ⟨y, ?_, ?_⟩
      · show fX0_laysWays_b89 nf kk T N R (q + 1) (sI (sI I (c + 35) x) (c + 36) y) c z (ii k) nm (ii l) = _
        rw [fX0_laysWays_b89]
        simp (disch := omega) only [↓nm_v, ↓tg, ↓rA, ↓chk_if, ↓reduceIte, inb_ii, ii_nat, ii_add, and_self, bi_zb, if_bi, if_bi1, ii_leT, ii_leF, ii_ltT, ii_ltF, ii_eqF, ii_m1F, ↓cb_2 hC, ↓cb_1 hC, ↓cb_3 hC, ↓cb_4 hC, ↓cb_5 hC, ↓cb_6 hC, ↓cb_7 hC, ↓cb_10 hC, ↓cb_17 hC, ↓cb_18 hC, ↓cb_19 hC, ↓cb_20 hC, ↓cb_21 hC, ↓cb_22 hC, ↓cb_23 hC, ↓cb_8 hC, ↓cb_9 hC, ↓cb_24 hC, ↓cb_16 hC, ↓cb29_0 hC, ↓cb29_1 hC, ↓sb_0 hS, ↓sb1_0 hS, ↓sb1_1 hS, ↓sb1_2 hS, ↓sb_1 hS, ↓sb_2 hS, ↓sb_3 hS, ↓sb_4 hS, ↓sb_5 hS, ↓sb_6 hS, ↓sb_7 hS, hC, hS, fX0_table, ↓bn_e, sI_ne, hG, e5, h]
      · show arN 8 _ (rngF (wyS A B on v) (l + 1) 0 (fun _ => 0))
        rw [rngF_s]
        generalize rngF (wyS A B on v) l 0 (fun _ => 0) = d at hy ⊢
        unfold wyS
        rw [ho l hl, decide_eq_false h, if_neg (by decide)]
        exact hy
  · intro q y hy
    show fX0_laysWays_b89 nf kk T N R (q + 1) (sI (sI I (c + 35) x) (c + 36) y) c z (ii k) nm (ii n) = _
    rw [fX0_laysWays_b89]
    simp (disch := omega) only [↓nm_v, ↓tg, ↓rA, ↓chk_if, ↓reduceIte, inb_ii, ii_nat, ii_add, and_self, bi_zb, if_bi, if_bi1, ii_leT, ii_leF, ii_ltT, ii_ltF, ii_eqF, ii_m1F, ↓cb_2 hC, ↓cb_1 hC, ↓cb_3 hC, ↓cb_4 hC, ↓cb_5 hC, ↓cb_6 hC, ↓cb_7 hC, ↓cb_10 hC, ↓cb_17 hC, ↓cb_18 hC, ↓cb_19 hC, ↓cb_20 hC, ↓cb_21 hC, ↓cb_22 hC, ↓cb_23 hC, ↓cb_8 hC, ↓cb_9 hC, ↓cb_24 hC, ↓cb_16 hC, ↓cb29_0 hC, ↓cb29_1 hC, ↓sb_0 hS, ↓sb1_0 hS, ↓sb1_1 hS, ↓sb1_2 hS, ↓sb_1 hS, ↓sb_2 hS, ↓sb_3 hS, ↓sb_4 hS, ↓sb_5 hS, ↓sb_6 hS, ↓sb_7 hS, hC, hS, sI_ne, hG, cpk]
    rw [if_pos (by decide), cpI_s, sI2 I (by omega), sI_at, sI_ne (by omega), sI_at]
theorem c_ways4 (hC : CSh c s T N R) (hS : StSh s T N R) (hs : s = c + 2) (hnf : 70 < nf) (kk : xI → Nat → Int32 → Int32 → Option xI) (z nm : Int32) (k : Nat) {x y : Nat → Int32} :
    ∃ y', fX0_laysWays_b65 nf kk T N R nf (sI (sI I (c + 35) x) (c + 36) y) c z (ii k) nm (ii 0) = fX0_laysWays_b89 nf kk T N R nf (sI (sI I (c + 35) x) (c + 36) y') c z (ii k) nm (ii 0) ∧ arN 8 y' (fun _ => 0) := by
  refine loop_rel (fun q y l => fX0_laysWays_b65 nf kk T N R q (sI (sI I (c + 35) x) (c + 36) y) c z (ii k) nm (ii l)) (fun l y => arN l y (fun _ => 0)) 8 (fun y => fX0_laysWays_b89 nf kk T N R nf (sI (sI I (c + 35) x) (c + 36) y) c z (ii k) nm (ii 0)) ?_ ?_ 8 0 y nf (by omega) (by omega) (fun j hj => by omega)
  · intro q y l hl hy
    refine ⟨upd y l (ii 0), ?_, ?_⟩
    · show fX0_laysWays_b65 nf kk T N R (q + 1) (sI (sI I (c + 35) x) (c + 36) y) c z (ii k) nm (ii l) = _
      rw [fX0_laysWays_b65]
      simp (disch := omega) only [↓nm_v, ↓tg, ↓rA, ↓chk_if, ↓reduceIte, inb_ii, ii_nat, ii_add, and_self, bi_zb, if_bi, if_bi1, ii_leT, ii_leF, ii_ltT, ii_ltF, ii_eqF, ii_m1F, ↓cb_2 hC, ↓cb_1 hC, ↓cb_3 hC, ↓cb_4 hC, ↓cb_5 hC, ↓cb_6 hC, ↓cb_7 hC, ↓cb_10 hC, ↓cb_17 hC, ↓cb_18 hC, ↓cb_19 hC, ↓cb_20 hC, ↓cb_21 hC, ↓cb_22 hC, ↓cb_23 hC, ↓cb_8 hC, ↓cb_9 hC, ↓cb_24 hC, ↓cb_16 hC, ↓cb29_0 hC, ↓cb29_1 hC, ↓sb_0 hS, ↓sb1_0 hS, ↓sb1_1 hS, ↓sb1_2 hS, ↓sb_1 hS, ↓sb_2 hS, ↓sb_3 hS, ↓sb_4 hS, ↓sb_5 hS, ↓sb_6 hS, ↓sb_7 hS, hC, hS, uI_sI]
    · have := arN_push hy 0
      intro j hj
      rw [this j hj, updN_at]
      split <;> rfl
  · intro q y hy
    show fX0_laysWays_b65 nf kk T N R (q + 1) (sI (sI I (c + 35) x) (c + 36) y) c z (ii k) nm (ii 8) = _
    rw [fX0_laysWays_b65]
    simp (disch := omega) only [↓nm_v, ↓tg, ↓rA, ↓chk_if, ↓reduceIte, inb_ii, ii_nat, ii_add, and_self, bi_zb, if_bi, if_bi1, ii_leT, ii_leF, ii_ltT, ii_ltF, ii_eqF, ii_m1F, ↓cb_2 hC, ↓cb_1 hC, ↓cb_3 hC, ↓cb_4 hC, ↓cb_5 hC, ↓cb_6 hC, ↓cb_7 hC, ↓cb_10 hC, ↓cb_17 hC, ↓cb_18 hC, ↓cb_19 hC, ↓cb_20 hC, ↓cb_21 hC, ↓cb_22 hC, ↓cb_23 hC, ↓cb_8 hC, ↓cb_9 hC, ↓cb_24 hC, ↓cb_16 hC, ↓cb29_0 hC, ↓cb29_1 hC, ↓sb_0 hS, ↓sb1_0 hS, ↓sb1_1 hS, ↓sb1_2 hS, ↓sb_1 hS, ↓sb_2 hS, ↓sb_3 hS, ↓sb_4 hS, ↓sb_5 hS, ↓sb_6 hS, ↓sb_7 hS, hC, hS]
theorem c_ways3 (hC : CSh c s T N R) (hS : StSh s T N R) (hs : s = c + 2) (hG : GrC I s n A B W) (hP : GrP n A B W) (hN : ∀ l, l < n → I (s + 4) l = Nm l) (hH : I s 10 = ii hh) (hh6 : hh ≤ 6) (hHd : ∀ i, i < hh → I (s + 10) i = Hd i) (hnf : 70 < nf) (fw : Bool) {x y : Nat → Int32} {v : Nat → Nat} (hx : arN 8 x v) :
    ∃ x' y', fX0_laysWays_b23 nf T N R nf (sI (sI I (c + 35) x) (c + 36) y) c (bi fw) (ii 0) = some (sI (sI I (c + 35) x') (c + 36) y') ∧ arN 8 x' (wyF A B (fun i l => decide (Nm l = Hd (if fw = true then i else hh - 1 - i))) n hh 0 v) := by
  have := loop_rel (fun q (p : (Nat → Int32) × (Nat → Int32)) k => fX0_laysWays_b23 nf T N R q (sI (sI I (c + 35) p.1) (c + 36) p.2) c (bi fw) (ii k)) (fun k p => arN 8 p.1 (wyF A B (fun i l => decide (Nm l = Hd (if fw = true then i else hh - 1 - i))) n k 0 v)) hh (fun p => some (sI (sI I (c + 35) p.1) (c + 36) p.2)) ?_ ?_ hh 0 (x, y) nf (by omega) (by omega) hx
  · obtain ⟨p, e, h⟩ := this
    exact ⟨p.1, p.2, e, h⟩
  · rintro q ⟨x, y⟩ k hk hx
    have hidx : (if fw = true then k else hh - 1 - k) < hh := by split <;> omega
    obtain ⟨y', e1, h1⟩ := c_ways4 (I := I) (x := x) (y := y) hC hS hs hnf (fX0_laysWays_b23 nf T N R q) (bi fw) (Hd (if fw = true then k else hh - 1 - k)) k
    obtain ⟨x'', y'', e2, h2⟩ := c_ways5 (on := fun l => decide (Nm l = Hd (if fw = true then k else hh - 1 - k))) hC hS hs hG hP hN hnf (fX0_laysWays_b23 nf T N R q) (bi fw) (Hd (if fw = true then k else hh - 1 - k)) k (fun l _ => rfl) hx h1
    refine ⟨(x'', y''), ?_, ?_⟩
    · refine Eq.trans ?_ (e1.trans e2)
      show fX0_laysWays_b23 nf T N R (q + 1) (sI (sI I (c + 35) x) (c + 36) y) c (bi fw) (ii k) = _
      rw [fX0_laysWays_b23]
      cases fw with
      | true =>
        have e := hHd k hk
        simp (disch := omega) only [↓nm_v, ↓tg, ↓rA, ↓chk_if, ↓reduceIte, inb_ii, ii_nat, ii_add, and_self, bi_zb, if_bi, if_bi1, ii_leT, ii_leF, ii_ltT, ii_ltF, ii_eqF, ii_m1F, ↓cb_2 hC, ↓cb_1 hC, ↓cb_3 hC, ↓cb_4 hC, ↓cb_5 hC, ↓cb_6 hC, ↓cb_7 hC, ↓cb_10 hC, ↓cb_17 hC, ↓cb_18 hC, ↓cb_19 hC, ↓cb_20 hC, ↓cb_21 hC, ↓cb_22 hC, ↓cb_23 hC, ↓cb_8 hC, ↓cb_9 hC, ↓cb_24 hC, ↓cb_16 hC, ↓cb29_0 hC, ↓cb29_1 hC, ↓sb_0 hS, ↓sb1_0 hS, ↓sb1_1 hS, ↓sb1_2 hS, ↓sb_1 hS, ↓sb_2 hS, ↓sb_3 hS, ↓sb_4 hS, ↓sb_5 hS, ↓sb_6 hS, ↓sb_7 hS, hC, hS, sI_ne, hH, e]
      | false =>
        have e := hHd (hh - 1 - k) (by omega)
        have e3 : ii hh - ii 1 - ii k = ii (hh - 1 - k) := by rw [ii_sub (by omega), ii_sub (by omega)]
        simp (disch := omega) only [↓nm_v, ↓tg, ↓rA, ↓chk_if, ↓reduceIte, inb_ii, ii_nat, ii_add, and_self, bi_zb, if_bi, if_bi1, ii_leT, ii_leF, ii_ltT, ii_ltF, ii_eqF, ii_m1F, ↓cb_2 hC, ↓cb_1 hC, ↓cb_3 hC, ↓cb_4 hC, ↓cb_5 hC, ↓cb_6 hC, ↓cb_7 hC, ↓cb_10 hC, ↓cb_17 hC, ↓cb_18 hC, ↓cb_19 hC, ↓cb_20 hC, ↓cb_21 hC, ↓cb_22 hC, ↓cb_23 hC, ↓cb_8 hC, ↓cb_9 hC, ↓cb_24 hC, ↓cb_16 hC, ↓cb29_0 hC, ↓cb29_1 hC, ↓sb_0 hS, ↓sb1_0 hS, ↓sb1_1 hS, ↓sb1_2 hS, ↓sb_1 hS, ↓sb_2 hS, ↓sb_3 hS, ↓sb_4 hS, ↓sb_5 hS, ↓sb_6 hS, ↓sb_7 hS, hC, hS, sI_ne, hH, e, e3, Bool.false_eq_true]
    · show arN 8 x'' (wyF A B _ n (k + 1) 0 v)
      unfold wyF
      rw [rngF_s]
      exact h2
  · rintro q ⟨x, y⟩ hx
    show fX0_laysWays_b23 nf T N R (q + 1) (sI (sI I (c + 35) x) (c + 36) y) c (bi fw) (ii hh) = _
    rw [fX0_laysWays_b23]
    simp (disch := omega) only [↓nm_v, ↓tg, ↓rA, ↓chk_if, ↓reduceIte, inb_ii, ii_nat, ii_add, and_self, bi_zb, if_bi, if_bi1, ii_leT, ii_leF, ii_ltT, ii_ltF, ii_eqF, ii_m1F, ↓cb_2 hC, ↓cb_1 hC, ↓cb_3 hC, ↓cb_4 hC, ↓cb_5 hC, ↓cb_6 hC, ↓cb_7 hC, ↓cb_10 hC, ↓cb_17 hC, ↓cb_18 hC, ↓cb_19 hC, ↓cb_20 hC, ↓cb_21 hC, ↓cb_22 hC, ↓cb_23 hC, ↓cb_8 hC, ↓cb_9 hC, ↓cb_24 hC, ↓cb_16 hC, ↓cb29_0 hC, ↓cb29_1 hC, ↓sb_0 hS, ↓sb1_0 hS, ↓sb1_1 hS, ↓sb1_2 hS, ↓sb_1 hS, ↓sb_2 hS, ↓sb_3 hS, ↓sb_4 hS, ↓sb_5 hS, ↓sb_6 hS, ↓sb_7 hS, hC, hS, sI_ne, hH]
theorem c_laysWays (hC : CSh c s T N R) (hS : StSh s T N R) (hs : s = c + 2) (hG : GrC I s n A B W) (hP : GrP n A B W) (hN : ∀ l, l < n → I (s + 4) l = Nm l) (hH : I s 10 = ii hh) (hh6 : hh ≤ 6) (hHd : ∀ i, i < hh → I (s + 10) i = Hd i) (hnf : 70 < nf) (fw : Bool) :
    ∃ x' y', fX0_laysWays nf T N I R c (bi fw) = some (sI (sI I (c + 35) x') (c + 36) y') ∧ arN 8 x' (wyF A B (fun i l => decide (Nm l = Hd (if fw = true then i else hh - 1 - i))) n hh 0 (fun _ => 1)) := by
  have h1 : ∃ x', fX0_laysWays_b2 nf T N R nf (sI (sI I (c + 35) (I (c + 35))) (c + 36) (I (c + 36))) c (bi fw) (ii 0) = fX0_laysWays_b23 nf T N R nf (sI (sI I (c + 35) x') (c + 36) (I (c + 36))) c (bi fw) (ii 0) ∧ arN 8 x' (fun _ => 1) := by
    refine loop_rel (fun q x l => fX0_laysWays_b2 nf T N R q (sI (sI I (c + 35) x) (c + 36) (I (c + 36))) c (bi fw) (ii l)) (fun l x => arN l x (fun _ => 1)) 8 (fun x => fX0_laysWays_b23 nf T N R nf (sI (sI I (c + 35) x) (c + 36) (I (c + 36))) c (bi fw) (ii 0)) ?_ ?_ 8 0 _ nf (by omega) (by omega) (fun j hj => by omega)
    · intro q x l hl hx
      refine ⟨upd x l (ii 1), ?_, ?_⟩
      · show fX0_laysWays_b2 nf T N R (q + 1) (sI (sI I (c + 35) x) (c + 36) (I (c + 36))) c (bi fw) (ii l) = _
        rw [fX0_laysWays_b2]
        simp (disch := omega) only [↓nm_v, ↓tg, ↓rA, ↓chk_if, ↓reduceIte, inb_ii, ii_nat, ii_add, and_self, bi_zb, if_bi, if_bi1, ii_leT, ii_leF, ii_ltT, ii_ltF, ii_eqF, ii_m1F, ↓cb_2 hC, ↓cb_1 hC, ↓cb_3 hC, ↓cb_4 hC, ↓cb_5 hC, ↓cb_6 hC, ↓cb_7 hC, ↓cb_10 hC, ↓cb_17 hC, ↓cb_18 hC, ↓cb_19 hC, ↓cb_20 hC, ↓cb_21 hC, ↓cb_22 hC, ↓cb_23 hC, ↓cb_8 hC, ↓cb_9 hC, ↓cb_24 hC, ↓cb_16 hC, ↓cb29_0 hC, ↓cb29_1 hC, ↓sb_0 hS, ↓sb1_0 hS, ↓sb1_1 hS, ↓sb1_2 hS, ↓sb_1 hS, ↓sb_2 hS, ↓sb_3 hS, ↓sb_4 hS, ↓sb_5 hS, ↓sb_6 hS, ↓sb_7 hS, hC, hS, uI_sI2]
      · have := arN_push hx 1
        intro j hj
        rw [this j hj, updN_at]
        split <;> rfl
    · intro q x hx
      show fX0_laysWays_b2 nf T N R (q + 1) (sI (sI I (c + 35) x) (c + 36) (I (c + 36))) c (bi fw) (ii 8) = _
      rw [fX0_laysWays_b2]
      simp (disch := omega) only [↓nm_v, ↓tg, ↓rA, ↓chk_if, ↓reduceIte, inb_ii, ii_nat, ii_add, and_self, bi_zb, if_bi, if_bi1, ii_leT, ii_leF, ii_ltT, ii_ltF, ii_eqF, ii_m1F, ↓cb_2 hC, ↓cb_1 hC, ↓cb_3 hC, ↓cb_4 hC, ↓cb_5 hC, ↓cb_6 hC, ↓cb_7 hC, ↓cb_10 hC, ↓cb_17 hC, ↓cb_18 hC, ↓cb_19 hC, ↓cb_20 hC, ↓cb_21 hC, ↓cb_22 hC, ↓cb_23 hC, ↓cb_8 hC, ↓cb_9 hC, ↓cb_24 hC, ↓cb_16 hC, ↓cb29_0 hC, ↓cb29_1 hC, ↓sb_0 hS, ↓sb1_0 hS, ↓sb1_1 hS, ↓sb1_2 hS, ↓sb_1 hS, ↓sb_2 hS, ↓sb_3 hS, ↓sb_4 hS, ↓sb_5 hS, ↓sb_6 hS, ↓sb_7 hS, hC, hS]
  obtain ⟨x1, e1, h1⟩ := h1
  obtain ⟨x2, y2, e2, h2⟩ := c_ways3 (y := I (c + 36)) hC hS hs hG hP hN hH hh6 hHd hnf fw h1
  refine ⟨x2, y2, ?_, h2⟩
  unfold fX0_laysWays
  rw [sI_id, sI_id] at e1
  exact e1.trans e2
end
