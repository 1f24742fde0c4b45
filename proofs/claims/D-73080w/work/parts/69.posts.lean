/-! PLAIN LAND, 19: posts, both sides -/
theorem c_isOf : ∀ S, S < 256 → ∀ k, k < 8 → fX0_isOf (ii S) (ii k) = some (bi (S.testBit k)) := by decide +kernel
theorem m_is : ∀ S, S < 256 → ∀ k, k < 8 → fX5_is (ii S) (ii k) = some (bi (S.testBit k)) := by decide +kernel
theorem c_ones : ∀ S, S < 256 → fX0_ones (ii S) = some (ii (cdN S)) := by decide +kernel
theorem ones_L : ∀ S, S < 256 → rngF (fun k v => v + ((ii S >>> (ii k &&& ii 31)) &&& ii 1)) 8 0 (ii 0) = ii (cdN S) := by decide +kernel
theorem cd_255 : ∀ S, S < 255 → cdN S < 8 := by decide +kernel
theorem cd_8 : ∀ S, S < 256 → cdN S ≤ 8 := by decide +kernel
theorem all_255 : ∀ k, k < 8 → Nat.testBit 255 k = true := by decide +kernel
theorem m_ones {nf : Nat} (hnf : 70 < nf) {S : Nat} (hS : S < 256) : fX5_ones nf (ii S) = some (ii (cdN S)) := by
  unfold fX5_ones
  rw [← ones_L S hS]
  refine loop0 (fun q v k => fX5_ones_b4 nf q (ii S) v (ii k)) (fun k v => v + ((ii S >>> (ii k &&& ii 31)) &&& ii 1)) 8 (fun v => some v) ?_ ?_ (by omega) (ii 0)
  · intro q v k hk
    show fX5_ones_b4 nf (q + 1) (ii S) v (ii k) = fX5_ones_b4 nf q (ii S) _ (ii (k + 1))
    rw [fX5_ones_b4]
    simp (disch := omega) only [↓nm_v, ↓tg, ↓rA, ↓chk_if, ↓reduceIte, inb_ii, ii_nat, ii_add, and_self, bi_zb, if_bi, if_bi1, ii_leT, ii_leF, ii_ltT, ii_ltF, ii_eqF, ii_m1F]
  · intro q v
    show fX5_ones_b4 nf (q + 1) (ii S) v (ii 8) = _
    rw [fX5_ones_b4]
    simp (disch := omega) only [↓nm_v, ↓tg, ↓rA, ↓chk_if, ↓reduceIte, inb_ii, ii_nat, ii_add, and_self, bi_zb, if_bi, if_bi1, ii_leT, ii_leF, ii_ltT, ii_ltF, ii_eqF, ii_m1F]
theorem ii_or (a b : Nat) : ii a ||| ii b = ii (a ||| b) := by
  show Int32.ofNat a ||| Int32.ofNat b = Int32.ofNat (a ||| b)
  rw [← Int32.toBitVec_inj, Int32.toBitVec_or]
  show BitVec.ofNat 32 a ||| BitVec.ofNat 32 b = BitVec.ofNat 32 (a ||| b)
  exact (BitVec.ofNat_or).symm
theorem ii_shl : ∀ k, k < 8 → ii 1 <<< (ii k &&& ii 31) = ii (2 ^ k) := by decide +kernel
/-- all corners near -/
def nrS (D : Nat → Nat) (S d c p : Nat) (b : Bool) : Bool := b || (S.testBit p && decide (D (8 * p + c) ≤ d))
def nr (D : Nat → Nat) (A B : Nat → Nat) (n S d c : Nat) : Bool := rngF (nrS D S d c) 8 0 (decide (deg A B n (ii c) = 0))
def allF (P : Nat → Bool) : Nat → Nat → Bool
  | 0, _ => true
  | d + 1, l => P l && allF P d (l + 1)
theorem allF_rng (P : Nat → Bool) : ∀ (d l : Nat) (b : Bool), rngF (fun c b => b && P c) d l b = (b && allF P d l) := by
  intro d
  induction d with
  | zero => intro l b; show b = (b && true); rw [Bool.and_true]
  | succ d ih =>
    intro l b
    show rngF _ d (l + 1) (b && P l) = (b && (P l && allF P d (l + 1)))
    rw [ih, Bool.and_assoc]
theorem allF_t {P : Nat → Bool} : ∀ (d l : Nat), (∀ c, l ≤ c → c < l + d → P c = true) → allF P d l = true := by
  intro d
  induction d with
  | zero => intro l _; rfl
  | succ d ih =>
    intro l h
    show (P l && allF P d (l + 1)) = true
    rw [h l (Nat.le_refl _) (by omega), ih (l + 1) (fun c a b => h c (by omega) (by omega))]
    rfl
theorem allF_congr {P Q : Nat → Bool} : ∀ (d l : Nat), (∀ c, l ≤ c → c < l + d → P c = Q c) → allF P d l = allF Q d l := by
  intro d
  induction d with
  | zero => intro l _; rfl
  | succ d ih =>
    intro l h
    show (P l && allF P d (l + 1)) = (Q l && allF Q d (l + 1))
    rw [h l (Nat.le_refl _) (by omega), ih (l + 1) (fun c a b => h c (by omega) (by omega))]
theorem bi_or1 (b : Bool) : bi b ||| ii 1 = bi true := by cases b <;> decide
theorem bi_or0 (b : Bool) : bi b ||| ii 0 = bi b := by cases b <;> decide
theorem nr_two {D E : Nat → Nat} {d : Nat} (hd : d ≤ 50) (h : fw2 1000000 100000000 2304 D E) (A B : Nat → Nat) (n S : Nat) {c : Nat} (hc : c < 8) : nr D A B n S d c = nr E A B n S d c := by
  unfold nr
  apply rngF_congr
  intro p b _ hp
  unfold nrS
  have := h p c (by omega) hc
  rw [show decide (D (8 * p + c) ≤ d) = decide (E (8 * p + c) ≤ d) by
    by_cases q : D (8 * p + c) ≤ d
    · rw [decide_eq_true q, decide_eq_true (by omega)]
    · rw [decide_eq_false q, decide_eq_false (by omega)]]
section
variable {T N : xT} {R : xR} {I : xI} {c s m n nf : Nat} {A B W : Nat → Nat} {D : Nat → Nat}
theorem c_ends (hC : CSh c s T N R) (hS : StSh s T N R) (hG : GrC I s n A B W) (hP : GrP n A B W) (hnf : 70 < nf) : ∃ E, fX0_ends nf T N I R c = some (ii E) ∧ E < 256 ∧ ∀ k, k < 8 → E.testBit k = !decide (deg A B n (ii k) = 0) := by
  obtain ⟨hn, hA, hB, hne, _⟩ := hP
  have := loop_rel (fun q e l => fX0_ends_b4 nf T N I R q c (ii e) (ii l)) (fun l e => e < 256 ∧ ∀ k, k < 8 → e.testBit k = !decide (deg A B l (ii k) = 0)) n (fun e => some (ii e)) ?_ ?_ n 0 0 nf (by omega) (by omega) ⟨by omega, fun k _ => by rw [Nat.zero_testBit]; rfl⟩
  · obtain ⟨E, e, h1, h2⟩ := this
    exact ⟨E, e, h1, h2⟩
  · rintro q e l hl ⟨h1, h2⟩
    have a1 := hA l hl
    have a2 := hB l hl
    refine ⟨e ||| (2 ^ A l ||| 2 ^ B l), ?_, ?_, ?_⟩
    · show fX0_ends_b4 nf T N I R (q + 1) c (ii e) (ii l) = _
      rw [fX0_ends_b4]
      simp (disch := omega) only [↓nm_v, ↓tg, ↓rA, ↓chk_if, ↓reduceIte, inb_ii, ii_nat, ii_add, and_self, bi_zb, if_bi, if_bi1, ii_leT, ii_leF, ii_ltT, ii_ltF, ii_eqF, ii_m1F, ↓cb_2 hC, ↓cb_1 hC, ↓cb_3 hC, ↓cb_4 hC, ↓cb_5 hC, ↓cb_6 hC, ↓cb_7 hC, ↓cb_10 hC, ↓cb_17 hC, ↓cb_18 hC, ↓cb_19 hC, ↓cb_20 hC, ↓cb_21 hC, ↓cb_22 hC, ↓cb_23 hC, ↓cb_8 hC, ↓cb_9 hC, ↓cb_24 hC, ↓cb_16 hC, ↓cb29_0 hC, ↓cb29_1 hC, ↓sb_0 hS, ↓sb1_0 hS, ↓sb1_1 hS, ↓sb1_2 hS, ↓sb_1 hS, ↓sb_2 hS, ↓sb_3 hS, ↓sb_4 hS, ↓sb_5 hS, ↓sb_6 hS, ↓sb_7 hS, hC, hS, hG, ii_shl, ii_or]
    · have p1 : 2 ^ A l < 2 ^ 8 := Nat.pow_lt_pow_right (by omega) a1
      have p2 : 2 ^ B l < 2 ^ 8 := Nat.pow_lt_pow_right (by omega) a2
      exact Nat.or_lt_two_pow (n := 8) h1 (Nat.or_lt_two_pow p1 p2)
    · intro k hk
      have e1 : deg A B (l + 1) (ii k) = degS A B (ii k) l (deg A B l (ii k)) := rngF_s _ _ _
      rw [Nat.testBit_or, Nat.testBit_or, Nat.testBit_two_pow, Nat.testBit_two_pow, h2 k hk, e1]
      unfold degS atE
      rw [ii_deq (by omega) (by omega), ii_deq (by omega) (by omega)]
      by_cases q1 : A l = k <;> by_cases q2 : B l = k <;> simp [q1, q2]
  · rintro q e _
    show fX0_ends_b4 nf T N I R (q + 1) c (ii e) (ii n) = _
    rw [fX0_ends_b4]
    simp (disch := omega) only [↓nm_v, ↓tg, ↓rA, ↓chk_if, ↓reduceIte, inb_ii, ii_nat, ii_add, and_self, bi_zb, if_bi, if_bi1, ii_leT, ii_leF, ii_ltT, ii_ltF, ii_eqF, ii_m1F, ↓cb_2 hC, ↓cb_1 hC, ↓cb_3 hC, ↓cb_4 hC, ↓cb_5 hC, ↓cb_6 hC, ↓cb_7 hC, ↓cb_10 hC, ↓cb_17 hC, ↓cb_18 hC, ↓cb_19 hC, ↓cb_20 hC, ↓cb_21 hC, ↓cb_22 hC, ↓cb_23 hC, ↓cb_8 hC, ↓cb_9 hC, ↓cb_24 hC, ↓cb_16 hC, ↓cb29_0 hC, ↓cb29_1 hC, ↓sb_0 hS, ↓sb1_0 hS, ↓sb1_1 hS, ↓sb1_2 hS, ↓sb_1 hS, ↓sb_2 hS, ↓sb_3 hS, ↓sb_4 hS, ↓sb_5 hS, ↓sb_6 hS, ↓sb_7 hS, hC, hS, hG]
theorem c_areNear (hC : CSh c s T N R) (hS : StSh s T N R) (hG : GrC I s n A B W) (hP : GrP n A B W) (hx : arN 64 (I (c + 34)) D) (hD : ∀ j, j < 64 → D j ≤ 1000000) (hnf : 70 < nf) {S d : Nat} (hS2 : S < 256) (hd : d ≤ 50) :
    fX0_areNear nf T N I R c (ii S) (ii d) = some (bi (allF (nr D A B n S d) 8 0)) := by
  obtain ⟨E, eE, hE, hE2⟩ := c_ends hC hS hG hP hnf
  have inner : ∀ (kk : Nat → Int32 → Int32 → Int32 → Int32 → Option Int32) (k : Nat), k < 8 → ∀ b0 : Bool, fX0_areNear_b34 nf kk T N I R nf c (ii S) (ii d) (ii E) (ii k) (bi b0) (ii 0) = if rngF (nrS D S d k) 8 0 b0 = true then kk c (ii S) (ii d) (ii E) (ii (k + 1)) else some (ii 0) := by
    intro kk k hk b0
    refine loop0 (fun q b p => fX0_areNear_b34 nf kk T N I R q c (ii S) (ii d) (ii E) (ii k) (bi b) (ii p)) (nrS D S d k) 8 (fun b => if b = true then kk c (ii S) (ii d) (ii E) (ii (k + 1)) else some (ii 0)) ?_ ?_ (by omega) b0
    · intro q b p hp
      have l1 := hD (8 * p + k) (by omega)
      show fX0_areNear_b34 nf kk T N I R (q + 1) c (ii S) (ii d) (ii E) (ii k) (bi b) (ii p) = fX0_areNear_b34 nf kk T N I R q c (ii S) (ii d) (ii E) (ii k) (bi (nrS D S d k p b)) (ii (p + 1))
      rw [fX0_areNear_b34]
      unfold nrS
      cases t : S.testBit p with
      | false =>
        simp (disch := omega) only [↓nm_v, ↓tg, ↓rA, ↓chk_if, ↓reduceIte, inb_ii, ii_nat, ii_add, and_self, bi_zb, if_bi, if_bi1, ii_leT, ii_leF, ii_ltT, ii_ltF, ii_eqF, ii_m1F, ↓cb_2 hC, ↓cb_1 hC, ↓cb_3 hC, ↓cb_4 hC, ↓cb_5 hC, ↓cb_6 hC, ↓cb_7 hC, ↓cb_10 hC, ↓cb_17 hC, ↓cb_18 hC, ↓cb_19 hC, ↓cb_20 hC, ↓cb_21 hC, ↓cb_22 hC, ↓cb_23 hC, ↓cb_8 hC, ↓cb_9 hC, ↓cb_24 hC, ↓cb_16 hC, ↓cb29_0 hC, ↓cb29_1 hC, ↓sb_0 hS, ↓sb1_0 hS, ↓sb1_1 hS, ↓sb1_2 hS, ↓sb_1 hS, ↓sb_2 hS, ↓sb_3 hS, ↓sb_4 hS, ↓sb_5 hS, ↓sb_6 hS, ↓sb_7 hS, hC, hS, ↓bn_of (c_isOf S hS2 p hp), t, bi_or0, Bool.false_and, Bool.or_false, Bool.false_eq_true]
      | true =>
        by_cases h : D (8 * p + k) ≤ d
        · simp (disch := omega) only [↓nm_v, ↓tg, ↓rA, ↓chk_if, ↓reduceIte, inb_ii, ii_nat, ii_add, and_self, bi_zb, if_bi, if_bi1, ii_leT, ii_leF, ii_ltT, ii_ltF, ii_eqF, ii_m1F, ↓cb_2 hC, ↓cb_1 hC, ↓cb_3 hC, ↓cb_4 hC, ↓cb_5 hC, ↓cb_6 hC, ↓cb_7 hC, ↓cb_10 hC, ↓cb_17 hC, ↓cb_18 hC, ↓cb_19 hC, ↓cb_20 hC, ↓cb_21 hC, ↓cb_22 hC, ↓cb_23 hC, ↓cb_8 hC, ↓cb_9 hC, ↓cb_24 hC, ↓cb_16 hC, ↓cb29_0 hC, ↓cb29_1 hC, ↓sb_0 hS, ↓sb1_0 hS, ↓sb1_1 hS, ↓sb1_2 hS, ↓sb_1 hS, ↓sb_2 hS, ↓sb_3 hS, ↓sb_4 hS, ↓sb_5 hS, ↓sb_6 hS, ↓sb_7 hS, hC, hS, ↓bn_of (c_isOf S hS2 p hp), t, ↓bn_of (c_farOf hC hS hx hp hk), bi_or1, h, decide_true, Bool.and_true, Bool.or_true]
        · simp (disch := omega) only [↓nm_v, ↓tg, ↓rA, ↓chk_if, ↓reduceIte, inb_ii, ii_nat, ii_add, and_self, bi_zb, if_bi, if_bi1, ii_leT, ii_leF, ii_ltT, ii_ltF, ii_eqF, ii_m1F, ↓cb_2 hC, ↓cb_1 hC, ↓cb_3 hC, ↓cb_4 hC, ↓cb_5 hC, ↓cb_6 hC, ↓cb_7 hC, ↓cb_10 hC, ↓cb_17 hC, ↓cb_18 hC, ↓cb_19 hC, ↓cb_20 hC, ↓cb_21 hC, ↓cb_22 hC, ↓cb_23 hC, ↓cb_8 hC, ↓cb_9 hC, ↓cb_24 hC, ↓cb_16 hC, ↓cb29_0 hC, ↓cb29_1 hC, ↓sb_0 hS, ↓sb1_0 hS, ↓sb1_1 hS, ↓sb1_2 hS, ↓sb_1 hS, ↓sb_2 hS, ↓sb_3 hS, ↓sb_4 hS, ↓sb_5 hS, ↓sb_6 hS, ↓sb_7 hS, hC, hS, ↓bn_of (c_isOf S hS2 p hp), t, ↓bn_of (c_farOf hC hS hx hp hk), bi_or0, h, decide_false, Bool.and_false, Bool.or_false]
    · intro q b
      show fX0_areNear_b34 nf kk T N I R (q + 1) c (ii S) (ii d) (ii E) (ii k) (bi b) (ii 8) = _
      rw [fX0_areNear_b34]
      simp (disch := omega) only [↓nm_v, ↓tg, ↓rA, ↓chk_if, ↓reduceIte, inb_ii, ii_nat, ii_add, and_self, bi_zb, if_bi, if_bi1, ii_leT, ii_leF, ii_ltT, ii_ltF, ii_eqF, ii_m1F, ↓cb_2 hC, ↓cb_1 hC, ↓cb_3 hC, ↓cb_4 hC, ↓cb_5 hC, ↓cb_6 hC, ↓cb_7 hC, ↓cb_10 hC, ↓cb_17 hC, ↓cb_18 hC, ↓cb_19 hC, ↓cb_20 hC, ↓cb_21 hC, ↓cb_22 hC, ↓cb_23 hC, ↓cb_8 hC, ↓cb_9 hC, ↓cb_24 hC, ↓cb_16 hC, ↓cb29_0 hC, ↓cb29_1 hC, ↓sb_0 hS, ↓sb1_0 hS, ↓sb1_1 hS, ↓sb1_2 hS, ↓sb_1 hS, ↓sb_2 hS, ↓sb_3 hS, ↓sb_4 hS, ↓sb_5 hS, ↓sb_6 hS, ↓sb_7 hS, hC, hS]
  have outer : ∀ w k q, k + w = 8 → w < q → fX0_areNear_b8 nf T N I R q c (ii S) (ii d) (ii E) (ii k) = some (bi (allF (nr D A B n S d) w k)) := by
    intro w
    induction w with
    | zero =>
      intro k q hk hq
      obtain ⟨q, rfl⟩ : ∃ q', q = q' + 1 := ⟨q - 1, by omega⟩
      have : k = 8 := by omega
      subst this
      rw [fX0_areNear_b8]
      simp (disch := omega) only [↓nm_v, ↓tg, ↓rA, ↓chk_if, ↓reduceIte, inb_ii, ii_nat, ii_add, and_self, bi_zb, if_bi, if_bi1, ii_leT, ii_leF, ii_ltT, ii_ltF, ii_eqF, ii_m1F, ↓cb_2 hC, ↓cb_1 hC, ↓cb_3 hC, ↓cb_4 hC, ↓cb_5 hC, ↓cb_6 hC, ↓cb_7 hC, ↓cb_10 hC, ↓cb_17 hC, ↓cb_18 hC, ↓cb_19 hC, ↓cb_20 hC, ↓cb_21 hC, ↓cb_22 hC, ↓cb_23 hC, ↓cb_8 hC, ↓cb_9 hC, ↓cb_24 hC, ↓cb_16 hC, ↓cb29_0 hC, ↓cb29_1 hC, ↓sb_0 hS, ↓sb1_0 hS, ↓sb1_1 hS, ↓sb1_2 hS, ↓sb_1 hS, ↓sb_2 hS, ↓sb_3 hS, ↓sb_4 hS, ↓sb_5 hS, ↓sb_6 hS, ↓sb_7 hS, hC, hS]
      rfl
    | succ w ih =>
      intro k q hk hq
      obtain ⟨q, rfl⟩ : ∃ q', q = q' + 1 := ⟨q - 1, by omega⟩
      rw [fX0_areNear_b8]
      have t := hE2 k (by omega)
      have key : ∀ b0 : Bool, b0 = decide (deg A B n (ii k) = 0) → fX0_areNear_b34 nf (fX0_areNear_b8 nf T N I R q) T N I R nf c (ii S) (ii d) (ii E) (ii k) (bi b0) (ii 0) = some (bi (allF (nr D A B n S d) (w + 1) k)) := by
        intro b0 hb0
        rw [inner _ k (by omega) b0, hb0]
        show (if nr D A B n S d k = true then _ else _) = some (bi (nr D A B n S d k && allF (nr D A B n S d) w (k + 1)))
        cases nr D A B n S d k with
        | true => rw [if_pos rfl, ih (k + 1) q (by omega) (by omega)]; rfl
        | false => rfl
      cases hz : decide (deg A B n (ii k) = 0) with
      | true =>
        rw [hz] at t
        simp (disch := omega) only [↓nm_v, ↓tg, ↓rA, ↓chk_if, ↓reduceIte, inb_ii, ii_nat, ii_add, and_self, bi_zb, if_bi, if_bi1, ii_leT, ii_leF, ii_ltT, ii_ltF, ii_eqF, ii_m1F, ↓cb_2 hC, ↓cb_1 hC, ↓cb_3 hC, ↓cb_4 hC, ↓cb_5 hC, ↓cb_6 hC, ↓cb_7 hC, ↓cb_10 hC, ↓cb_17 hC, ↓cb_18 hC, ↓cb_19 hC, ↓cb_20 hC, ↓cb_21 hC, ↓cb_22 hC, ↓cb_23 hC, ↓cb_8 hC, ↓cb_9 hC, ↓cb_24 hC, ↓cb_16 hC, ↓cb29_0 hC, ↓cb29_1 hC, ↓sb_0 hS, ↓sb1_0 hS, ↓sb1_1 hS, ↓sb1_2 hS, ↓sb_1 hS, ↓sb_2 hS, ↓sb_3 hS, ↓sb_4 hS, ↓sb_5 hS, ↓sb_6 hS, ↓sb_7 hS, hC, hS, ↓bn_of (c_isOf E hE k (show k < 8 by omega)), t, Bool.not_true, Bool.false_eq_true]
        exact key true hz.symm
      | false =>
        rw [hz] at t
        simp (disch := omega) only [↓nm_v, ↓tg, ↓rA, ↓chk_if, ↓reduceIte, inb_ii, ii_nat, ii_add, and_self, bi_zb, if_bi, if_bi1, ii_leT, ii_leF, ii_ltT, ii_ltF, ii_eqF, ii_m1F, ↓cb_2 hC, ↓cb_1 hC, ↓cb_3 hC, ↓cb_4 hC, ↓cb_5 hC, ↓cb_6 hC, ↓cb_7 hC, ↓cb_10 hC, ↓cb_17 hC, ↓cb_18 hC, ↓cb_19 hC, ↓cb_20 hC, ↓cb_21 hC, ↓cb_22 hC, ↓cb_23 hC, ↓cb_8 hC, ↓cb_9 hC, ↓cb_24 hC, ↓cb_16 hC, ↓cb29_0 hC, ↓cb29_1 hC, ↓sb_0 hS, ↓sb1_0 hS, ↓sb1_1 hS, ↓sb1_2 hS, ↓sb_1 hS, ↓sb_2 hS, ↓sb_3 hS, ↓sb_4 hS, ↓sb_5 hS, ↓sb_6 hS, ↓sb_7 hS, hC, hS, ↓bn_of (c_isOf E hE k (show k < 8 by omega)), t, Bool.not_false]
        exact key false hz.symm
  unfold fX0_areNear
  simp (disch := omega) only [↓nm_v, ↓tg, ↓rA, ↓chk_if, ↓reduceIte, inb_ii, ii_nat, ii_add, and_self, bi_zb, if_bi, if_bi1, ii_leT, ii_leF, ii_ltT, ii_ltF, ii_eqF, ii_m1F, ↓cb_2 hC, ↓cb_1 hC, ↓cb_3 hC, ↓cb_4 hC, ↓cb_5 hC, ↓cb_6 hC, ↓cb_7 hC, ↓cb_10 hC, ↓cb_17 hC, ↓cb_18 hC, ↓cb_19 hC, ↓cb_20 hC, ↓cb_21 hC, ↓cb_22 hC, ↓cb_23 hC, ↓cb_8 hC, ↓cb_9 hC, ↓cb_24 hC, ↓cb_16 hC, ↓cb29_0 hC, ↓cb29_1 hC, ↓sb_0 hS, ↓sb1_0 hS, ↓sb1_1 hS, ↓sb1_2 hS, ↓sb_1 hS, ↓sb_2 hS, ↓sb_3 hS, ↓sb_4 hS, ↓sb_5 hS, ↓sb_6 hS, ↓sb_7 hS, hC, hS, ↓bn_of eE]
  exact outer 8 0 nf (by omega) (by omega)
theorem m_allNear (hM : MSh m T N R) (hG : GrM I m n A B W) (hP : GrP n A B W) (hx : arN 64 (I (m + 22)) D) (hD : ∀ j, j < 64 → D j ≤ 100000000) (hnf : 70 < nf) {S d : Nat} (hS2 : S < 256) (hd : d ≤ 50) :
    fX5_allNear nf T N I R m (ii S) (ii d) = some (bi (allF (nr D A B n S d) 8 0)) := by
  have hn := hP.1
  have inner : ∀ (kk : Nat → Int32 → Int32 → Int32 → Int32 → Option Int32) (so : Bool) (k : Nat), k < 8 → ∀ b0 : Bool, fX5_allNear_b31 nf kk T N I R nf m (ii S) (ii d) (bi so) (ii k) (bi b0) (ii 0) = kk m (ii S) (ii d) (bi (so && rngF (nrS D S d k) 8 0 b0)) (ii (k + 1)) := by
    intro kk so k hk b0
    refine loop0 (fun q b p => fX5_allNear_b31 nf kk T N I R q m (ii S) (ii d) (bi so) (ii k) (bi b) (ii p)) (nrS D S d k) 8 (fun b => kk m (ii S) (ii d) (bi (so && b)) (ii (k + 1))) ?_ ?_ (by omega) b0
    · intro q b p hp
      have l1 := hD (8 * p + k) (by omega)
      show fX5_allNear_b31 nf kk T N I R (q + 1) m (ii S) (ii d) (bi so) (ii k) (bi b) (ii p) = fX5_allNear_b31 nf kk T N I R q m (ii S) (ii d) (bi so) (ii k) (bi (nrS D S d k p b)) (ii (p + 1))
      rw [fX5_allNear_b31]
      unfold nrS
      cases b with
      | true =>
        simp (disch := omega) only [↓nm_v, ↓tg, ↓rA, ↓chk_if, ↓reduceIte, inb_ii, ii_nat, ii_add, and_self, bi_zb, if_bi, if_bi1, ii_leT, ii_leF, ii_ltT, ii_ltF, ii_eqF, ii_m1F, ↓mb_2 hM, ↓mb_3 hM, ↓mb_4 hM, ↓mb_5 hM, ↓mb_6 hM, ↓mb_7 hM, ↓mb_9 hM, ↓mb_10 hM, ↓mb_12 hM, ↓mb_22 hM, ↓mb_24 hM, ↓mb_25 hM, ↓mb_27 hM, ↓mb_28 hM, ↓mb_31 hM, ↓mb_32 hM, ↓mb_33 hM, ↓mb_35 hM, ↓mb_36 hM, ↓mb_37 hM, ↓mb_41 hM, ↓mb_42 hM, ↓mb_43 hM, ↓mb_44 hM, ↓mb_45 hM, ↓mb_46 hM, ↓mb_47 hM, ↓mb_48 hM, ↓mb_49 hM, ↓mb_55 hM, hM, Bool.true_or]
        rfl
      | false =>
        cases t : S.testBit p with
        | false =>
          simp (disch := omega) only [↓nm_v, ↓tg, ↓rA, ↓chk_if, ↓reduceIte, inb_ii, ii_nat, ii_add, and_self, bi_zb, if_bi, if_bi1, ii_leT, ii_leF, ii_ltT, ii_ltF, ii_eqF, ii_m1F, ↓mb_2 hM, ↓mb_3 hM, ↓mb_4 hM, ↓mb_5 hM, ↓mb_6 hM, ↓mb_7 hM, ↓mb_9 hM, ↓mb_10 hM, ↓mb_12 hM, ↓mb_22 hM, ↓mb_24 hM, ↓mb_25 hM, ↓mb_27 hM, ↓mb_28 hM, ↓mb_31 hM, ↓mb_32 hM, ↓mb_33 hM, ↓mb_35 hM, ↓mb_36 hM, ↓mb_37 hM, ↓mb_41 hM, ↓mb_42 hM, ↓mb_43 hM, ↓mb_44 hM, ↓mb_45 hM, ↓mb_46 hM, ↓mb_47 hM, ↓mb_48 hM, ↓mb_49 hM, ↓mb_55 hM, hM, ↓bn_of (m_is S hS2 p hp), t, Bool.false_and, Bool.or_false, Bool.false_eq_true]
          rfl
        | true =>
          by_cases h : D (8 * p + k) ≤ d
          · simp (disch := omega) only [↓nm_v, ↓tg, ↓rA, ↓chk_if, ↓reduceIte, inb_ii, ii_nat, ii_add, and_self, bi_zb, if_bi, if_bi1, ii_leT, ii_leF, ii_ltT, ii_ltF, ii_eqF, ii_m1F, ↓mb_2 hM, ↓mb_3 hM, ↓mb_4 hM, ↓mb_5 hM, ↓mb_6 hM, ↓mb_7 hM, ↓mb_9 hM, ↓mb_10 hM, ↓mb_12 hM, ↓mb_22 hM, ↓mb_24 hM, ↓mb_25 hM, ↓mb_27 hM, ↓mb_28 hM, ↓mb_31 hM, ↓mb_32 hM, ↓mb_33 hM, ↓mb_35 hM, ↓mb_36 hM, ↓mb_37 hM, ↓mb_41 hM, ↓mb_42 hM, ↓mb_43 hM, ↓mb_44 hM, ↓mb_45 hM, ↓mb_46 hM, ↓mb_47 hM, ↓mb_48 hM, ↓mb_49 hM, ↓mb_55 hM, hM, ↓bn_of (m_is S hS2 p hp), t, ↓bn_of (m_farOf hM hx hD hp hk), h, decide_true, Bool.and_true, Bool.or_true, Bool.false_eq_true]
            rfl
          · simp (disch := omega) only [↓nm_v, ↓tg, ↓rA, ↓chk_if, ↓reduceIte, inb_ii, ii_nat, ii_add, and_self, bi_zb, if_bi, if_bi1, ii_leT, ii_leF, ii_ltT, ii_ltF, ii_eqF, ii_m1F, ↓mb_2 hM, ↓mb_3 hM, ↓mb_4 hM, ↓mb_5 hM, ↓mb_6 hM, ↓mb_7 hM, ↓mb_9 hM, ↓mb_10 hM, ↓mb_12 hM, ↓mb_22 hM, ↓mb_24 hM, ↓mb_25 hM, ↓mb_27 hM, ↓mb_28 hM, ↓mb_31 hM, ↓mb_32 hM, ↓mb_33 hM, ↓mb_35 hM, ↓mb_36 hM, ↓mb_37 hM, ↓mb_41 hM, ↓mb_42 hM, ↓mb_43 hM, ↓mb_44 hM, ↓mb_45 hM, ↓mb_46 hM, ↓mb_47 hM, ↓mb_48 hM, ↓mb_49 hM, ↓mb_55 hM, hM, ↓bn_of (m_is S hS2 p hp), t, ↓bn_of (m_farOf hM hx hD hp hk), h, decide_false, Bool.and_false, Bool.or_false, Bool.false_eq_true]
            rfl
    · intro q b
      show fX5_allNear_b31 nf kk T N I R (q + 1) m (ii S) (ii d) (bi so) (ii k) (bi b) (ii 8) = _
      rw [fX5_allNear_b31]
      simp (disch := omega) only [↓nm_v, ↓tg, ↓rA, ↓chk_if, ↓reduceIte, inb_ii, ii_nat, ii_add, and_self, bi_zb, if_bi, if_bi1, ii_leT, ii_leF, ii_ltT, ii_ltF, ii_eqF, ii_m1F, ↓mb_2 hM, ↓mb_3 hM, ↓mb_4 hM, ↓mb_5 hM, ↓mb_6 hM, ↓mb_7 hM, ↓mb_9 hM, ↓mb_10 hM, ↓mb_12 hM, ↓mb_22 hM, ↓mb_24 hM, ↓mb_25 hM, ↓mb_27 hM, ↓mb_28 hM, ↓mb_31 hM, ↓mb_32 hM, ↓mb_33 hM, ↓mb_35 hM, ↓mb_36 hM, ↓mb_37 hM, ↓mb_41 hM, ↓mb_42 hM, ↓mb_43 hM, ↓mb_44 hM, ↓mb_45 hM, ↓mb_46 hM, ↓mb_47 hM, ↓mb_48 hM, ↓mb_49 hM, ↓mb_55 hM, hM]
      cases so <;> cases b <;> rfl
  unfold fX5_allNear
  rw [show allF (nr D A B n S d) 8 0 = (true && allF (nr D A B n S d) 8 0) by rw [Bool.true_and], ← allF_rng]
  refine loop0 (fun q b k => fX5_allNear_b5 nf T N I R q m (ii S) (ii d) (bi b) (ii k)) (fun c b => b && nr D A B n S d c) 8 (fun b => some (bi b)) ?_ ?_ (by omega) true
  · intro q b k hk
    show fX5_allNear_b5 nf T N I R (q + 1) m (ii S) (ii d) (bi b) (ii k) = fX5_allNear_b5 nf T N I R q m (ii S) (ii d) (bi (b && nr D A B n S d k)) (ii (k + 1))
    rw [fX5_allNear_b5]
    have hdg := deg_le A B n (ii k)
    have key : ∀ b0 : Bool, b0 = decide (deg A B n (ii k) = 0) → fX5_allNear_b31 nf (fX5_allNear_b5 nf T N I R q) T N I R nf m (ii S) (ii d) (bi b) (ii k) (bi b0) (ii 0) = fX5_allNear_b5 nf T N I R q m (ii S) (ii d) (bi (b && nr D A B n S d k)) (ii (k + 1)) := by
      intro b0 hb0
      rw [inner _ b k hk b0, hb0]
      rfl
    by_cases hz : deg A B n (ii k) = 0
    · simp (disch := omega) only [↓nm_v, ↓tg, ↓rA, ↓chk_if, ↓reduceIte, inb_ii, ii_nat, ii_add, and_self, bi_zb, if_bi, if_bi1, ii_leT, ii_leF, ii_ltT, ii_ltF, ii_eqF, ii_m1F, ↓mb_2 hM, ↓mb_3 hM, ↓mb_4 hM, ↓mb_5 hM, ↓mb_6 hM, ↓mb_7 hM, ↓mb_9 hM, ↓mb_10 hM, ↓mb_12 hM, ↓mb_22 hM, ↓mb_24 hM, ↓mb_25 hM, ↓mb_27 hM, ↓mb_28 hM, ↓mb_31 hM, ↓mb_32 hM, ↓mb_33 hM, ↓mb_35 hM, ↓mb_36 hM, ↓mb_37 hM, ↓mb_41 hM, ↓mb_42 hM, ↓mb_43 hM, ↓mb_44 hM, ↓mb_45 hM, ↓mb_46 hM, ↓mb_47 hM, ↓mb_48 hM, ↓mb_49 hM, ↓mb_55 hM, hM, ↓bn_of (m_laneEnds hM hG hn hnf (ii k)), hz]
      exact key true (decide_eq_true hz).symm
    · simp (disch := omega) only [↓nm_v, ↓tg, ↓rA, ↓chk_if, ↓reduceIte, inb_ii, ii_nat, ii_add, and_self, bi_zb, if_bi, if_bi1, ii_leT, ii_leF, ii_ltT, ii_ltF, ii_eqF, ii_m1F, ↓mb_2 hM, ↓mb_3 hM, ↓mb_4 hM, ↓mb_5 hM, ↓mb_6 hM, ↓mb_7 hM, ↓mb_9 hM, ↓mb_10 hM, ↓mb_12 hM, ↓mb_22 hM, ↓mb_24 hM, ↓mb_25 hM, ↓mb_27 hM, ↓mb_28 hM, ↓mb_31 hM, ↓mb_32 hM, ↓mb_33 hM, ↓mb_35 hM, ↓mb_36 hM, ↓mb_37 hM, ↓mb_41 hM, ↓mb_42 hM, ↓mb_43 hM, ↓mb_44 hM, ↓mb_45 hM, ↓mb_46 hM, ↓mb_47 hM, ↓mb_48 hM, ↓mb_49 hM, ↓mb_55 hM, hM, ↓bn_of (m_laneEnds hM hG hn hnf (ii k))]
      exact key false (decide_eq_false hz).symm
  · intro q b
    show fX5_allNear_b5 nf T N I R (q + 1) m (ii S) (ii d) (bi b) (ii 8) = _
    rw [fX5_allNear_b5]
    simp (disch := omega) only [↓nm_v, ↓tg, ↓rA, ↓chk_if, ↓reduceIte, inb_ii, ii_nat, ii_add, and_self, bi_zb, if_bi, if_bi1, ii_leT, ii_leF, ii_ltT, ii_ltF, ii_eqF, ii_m1F, ↓mb_2 hM, ↓mb_3 hM, ↓mb_4 hM, ↓mb_5 hM, ↓mb_6 hM, ↓mb_7 hM, ↓mb_9 hM, ↓mb_10 hM, ↓mb_12 hM, ↓mb_22 hM, ↓mb_24 hM, ↓mb_25 hM, ↓mb_27 hM, ↓mb_28 hM, ↓mb_31 hM, ↓mb_32 hM, ↓mb_33 hM, ↓mb_35 hM, ↓mb_36 hM, ↓mb_37 hM, ↓mb_41 hM, ↓mb_42 hM, ↓mb_43 hM, ↓mb_44 hM, ↓mb_45 hM, ↓mb_46 hM, ↓mb_47 hM, ↓mb_48 hM, ↓mb_49 hM, ↓mb_55 hM, hM]
/-- the least set, the first of alike ones -/
def poS (P : Nat → Bool) (S b : Nat) : Nat := if cdN b ≤ cdN S then b else if P S = true then S else b
def poA (P : Nat → Bool) : Nat := rngF (poS P) 255 0 255
def pmS (P : Nat → Bool) (S : Nat) (p : Nat × Nat) : Nat × Nat := if p.1 ≤ cdN S then p else if P S = true then (cdN S, S) else p
theorem po_lt (P : Nat → Bool) : ∀ d, d ≤ 255 → rngF (poS P) d 0 255 < 256 := by
  intro d
  induction d with
  | zero => intro _; exact (by decide : (255 : Nat) < 256)
  | succ d ih =>
    intro hd
    have := ih (by omega)
    rw [rngF_s]
    unfold poS
    split
    · exact this
    · split
      · omega
      · exact this
theorem pm_po (P : Nat → Bool) (h255 : P 255 = true) : rngF (pmS P) 256 0 (100000000, 0) = (cdN (poA P), poA P) := by
  have h : ∀ d, d ≤ 255 → (rngF (pmS P) d 0 (100000000, 0) = (100000000, 0) ∧ rngF (poS P) d 0 255 = 255) ∨ (rngF (pmS P) d 0 (100000000, 0) = (cdN (rngF (poS P) d 0 255), rngF (poS P) d 0 255)) := by
    intro d
    induction d with
    | zero => intro _; exact Or.inl ⟨rfl, rfl⟩
    | succ d ih =>
      intro hd
      rw [rngF_s, rngF_s]
      have hc := cd_255 d (by omega)
      rcases ih (by omega) with ⟨e1, e2⟩ | e1
      · rw [e1, e2]
        have e8 : cdN 255 = 8 := by decide
        have p1 : pmS P d (100000000, 0) = if P d = true then (cdN d, d) else (100000000, 0) := by unfold pmS; exact if_neg (by show ¬ 100000000 ≤ cdN d; omega)
        have p2 : poS P d 255 = if P d = true then d else 255 := by unfold poS; exact if_neg (by omega)
        rw [p1, p2]
        by_cases q : P d = true
        · rw [if_pos q, if_pos q]
          exact Or.inr rfl
        · rw [if_neg q, if_neg q]
          exact Or.inl ⟨rfl, rfl⟩
      · rw [e1]
        right
        generalize rngF (poS P) d 0 255 = b
        unfold pmS poS
        show (if cdN b ≤ cdN d then (cdN b, b) else if P d = true then (cdN d, d) else (cdN b, b)) = _
        split
        · rfl
        · split <;> rfl
  rw [rngF_s]
  unfold poA
  have e8 : cdN 255 = 8 := by decide
  rcases h 255 (Nat.le_refl _) with ⟨e1, e2⟩ | e1
  · rw [e1, e2]
    unfold pmS
    rw [if_neg (by show ¬ 100000000 ≤ cdN 255; omega), if_pos h255]
  · rw [e1]
    have := cd_8 _ (po_lt P 255 (Nat.le_refl _))
    unfold pmS
    rw [if_pos (by show cdN _ ≤ cdN 255; omega)]
/-- what posts answers -/
def postsA (A B W : Nat → Nat) (n : Nat) (x y : Int32) : Int32 :=
  if rg x 0 50 = true ∧ rg y 0 1 = true then (if y = ii 0 then ii (cdN (poA (fun S => allF (nr (fwA 1000000 A B W n) A B n S x.toNatClampNeg) 8 0))) else ii (poA (fun S => allF (nr (fwA 1000000 A B W n) A B n S x.toNatClampNeg) 8 0))) else -1
theorem c_posts (hC : CSh c s T N R) (hS : StSh s T N R) (hs : s = c + 2) (hG : GrC I s n A B W) (hP : GrP n A B W) (hnf : 300 < nf) (x y : Int32) :
    ∃ v, fX0_posts nf T N I R c x y = some (postsA A B W n x y, sI I (c + 34) v) := by
  unfold fX0_posts postsA
  cases h1 : rg x 0 50 with
  | false =>
    refine ⟨I (c + 34), ?_⟩
    rw [sI_id]
    simp (disch := omega) only [↓nm_v, ↓tg, ↓rA, ↓chk_if, ↓reduceIte, inb_ii, ii_nat, ii_add, and_self, bi_zb, if_bi, if_bi1, ii_leT, ii_leF, ii_ltT, ii_ltF, ii_eqF, ii_m1F, ↓cb_2 hC, ↓cb_1 hC, ↓cb_3 hC, ↓cb_4 hC, ↓cb_5 hC, ↓cb_6 hC, ↓cb_7 hC, ↓cb_10 hC, ↓cb_17 hC, ↓cb_18 hC, ↓cb_19 hC, ↓cb_20 hC, ↓cb_21 hC, ↓cb_22 hC, ↓cb_23 hC, ↓cb_8 hC, ↓cb_9 hC, ↓cb_24 hC, ↓cb_16 hC, ↓cb29_0 hC, ↓cb29_1 hC, ↓sb_0 hS, ↓sb1_0 hS, ↓sb1_1 hS, ↓sb1_2 hS, ↓sb_1 hS, ↓sb_2 hS, ↓sb_3 hS, ↓sb_4 hS, ↓sb_5 hS, ↓sb_6 hS, ↓sb_7 hS, hC, hS, ↓bn_of (c_i0_50 x), h1, false_and, Bool.false_eq_true]
  | true =>
    cases h2 : rg y 0 1 with
    | false =>
      refine ⟨I (c + 34), ?_⟩
      rw [sI_id]
      simp (disch := omega) only [↓nm_v, ↓tg, ↓rA, ↓chk_if, ↓reduceIte, inb_ii, ii_nat, ii_add, and_self, bi_zb, if_bi, if_bi1, ii_leT, ii_leF, ii_ltT, ii_ltF, ii_eqF, ii_m1F, ↓cb_2 hC, ↓cb_1 hC, ↓cb_3 hC, ↓cb_4 hC, ↓cb_5 hC, ↓cb_6 hC, ↓cb_7 hC, ↓cb_10 hC, ↓cb_17 hC, ↓cb_18 hC, ↓cb_19 hC, ↓cb_20 hC, ↓cb_21 hC, ↓cb_22 hC, ↓cb_23 hC, ↓cb_8 hC, ↓cb_9 hC, ↓cb_24 hC, ↓cb_16 hC, ↓cb29_0 hC, ↓cb29_1 hC, ↓sb_0 hS, ↓sb1_0 hS, ↓sb1_1 hS, ↓sb1_2 hS, ↓sb_1 hS, ↓sb_2 hS, ↓sb_3 hS, ↓sb_4 hS, ↓sb_5 hS, ↓sb_6 hS, ↓sb_7 hS, hC, hS, ↓bn_of (c_i0_50 x), ↓bn_of (c_i0_1 y), h1, h2, and_false, Bool.false_eq_true]
    | true =>
      obtain ⟨d, rfl, hd, _⟩ := rg_ex (hi := 50) h1
      obtain ⟨v, e, hv⟩ := c_laysFar hC hS hs hG hP (show 70 < nf by omega)
      refine ⟨v, ?_⟩
      have hD := fw_le64 (fwK 1000000 hP).1
      have hn := fun S (h : S < 256) => c_areNear (I := sI I (c + 34) v) (nf := nf) (S := S) (d := d) hC hS (GrC_s hG (by omega) v) hP (by rw [sI_at]; exact hv) hD (by omega) h hd
      simp (disch := omega) only [↓nm_v, ↓tg, ↓rA, ↓chk_if, ↓reduceIte, inb_ii, ii_nat, ii_add, and_self, bi_zb, if_bi, if_bi1, ii_leT, ii_leF, ii_ltT, ii_ltF, ii_eqF, ii_m1F, ↓cb_2 hC, ↓cb_1 hC, ↓cb_3 hC, ↓cb_4 hC, ↓cb_5 hC, ↓cb_6 hC, ↓cb_7 hC, ↓cb_10 hC, ↓cb_17 hC, ↓cb_18 hC, ↓cb_19 hC, ↓cb_20 hC, ↓cb_21 hC, ↓cb_22 hC, ↓cb_23 hC, ↓cb_8 hC, ↓cb_9 hC, ↓cb_24 hC, ↓cb_16 hC, ↓cb29_0 hC, ↓cb29_1 hC, ↓sb_0 hS, ↓sb1_0 hS, ↓sb1_1 hS, ↓sb1_2 hS, ↓sb_1 hS, ↓sb_2 hS, ↓sb_3 hS, ↓sb_4 hS, ↓sb_5 hS, ↓sb_6 hS, ↓sb_7 hS, hC, hS, ↓bn_of (c_i0_50 (ii d)), ↓bn_of (c_i0_1 y), h1, h2, ↓bn_of e]
      generalize hPP : (fun S => allF (nr (fwA 1000000 A B W n) A B n S d) 8 0) = P
      have hn : ∀ S, S < 256 → fX0_areNear nf T N (sI I (c + 34) v) R c (ii S) (ii d) = some (bi (P S)) := by
        intro S h
        rw [hn S h, ← hPP]
      refine loop_up (fun q b S => fX0_posts_b32 nf T N R q (sI I (c + 34) v) c (ii d) y (ii b) (ii S)) (poS P) (fun _ b => b < 256) 255 (fun b => some (if y = ii 0 then ii (cdN b) else ii b, sI I (c + 34) v)) ?_ ?_ 255 0 255 nf (by omega) (by omega) (by decide)
      · intro q b S hS' hb
        have c1 := cd_8 b hb
        have c2 := cd_8 S (by omega)
        refine ⟨?_, ?_⟩
        · show fX0_posts_b32 nf T N R (q + 1) (sI I (c + 34) v) c (ii d) y (ii b) (ii S) = fX0_posts_b32 nf T N R q (sI I (c + 34) v) c (ii d) y (ii (poS P S b)) (ii (S + 1))
          rw [fX0_posts_b32]
          unfold poS
          by_cases h : cdN b ≤ cdN S
          · simp (disch := omega) only [↓nm_v, ↓tg, ↓rA, ↓chk_if, ↓reduceIte, inb_ii, ii_nat, ii_add, and_self, bi_zb, if_bi, if_bi1, ii_leT, ii_leF, ii_ltT, ii_ltF, ii_eqF, ii_m1F, ↓cb_2 hC, ↓cb_1 hC, ↓cb_3 hC, ↓cb_4 hC, ↓cb_5 hC, ↓cb_6 hC, ↓cb_7 hC, ↓cb_10 hC, ↓cb_17 hC, ↓cb_18 hC, ↓cb_19 hC, ↓cb_20 hC, ↓cb_21 hC, ↓cb_22 hC, ↓cb_23 hC, ↓cb_8 hC, ↓cb_9 hC, ↓cb_24 hC, ↓cb_16 hC, ↓cb29_0 hC, ↓cb29_1 hC, ↓sb_0 hS, ↓sb1_0 hS, ↓sb1_1 hS, ↓sb1_2 hS, ↓sb_1 hS, ↓sb_2 hS, ↓sb_3 hS, ↓sb_4 hS, ↓sb_5 hS, ↓sb_6 hS, ↓sb_7 hS, hC, hS, ↓bn_of (c_ones S (show S < 256 by omega)), ↓bn_of (c_ones b hb), h]
          · cases t : P S with
            | true => simp (disch := omega) only [↓nm_v, ↓tg, ↓rA, ↓chk_if, ↓reduceIte, inb_ii, ii_nat, ii_add, and_self, bi_zb, if_bi, if_bi1, ii_leT, ii_leF, ii_ltT, ii_ltF, ii_eqF, ii_m1F, ↓cb_2 hC, ↓cb_1 hC, ↓cb_3 hC, ↓cb_4 hC, ↓cb_5 hC, ↓cb_6 hC, ↓cb_7 hC, ↓cb_10 hC, ↓cb_17 hC, ↓cb_18 hC, ↓cb_19 hC, ↓cb_20 hC, ↓cb_21 hC, ↓cb_22 hC, ↓cb_23 hC, ↓cb_8 hC, ↓cb_9 hC, ↓cb_24 hC, ↓cb_16 hC, ↓cb29_0 hC, ↓cb29_1 hC, ↓sb_0 hS, ↓sb1_0 hS, ↓sb1_1 hS, ↓sb1_2 hS, ↓sb_1 hS, ↓sb_2 hS, ↓sb_3 hS, ↓sb_4 hS, ↓sb_5 hS, ↓sb_6 hS, ↓sb_7 hS, hC, hS, ↓bn_of (c_ones S (show S < 256 by omega)), ↓bn_of (c_ones b hb), h, ↓bn_of (hn S (show S < 256 by omega)), t]
            | false => simp (disch := omega) only [↓nm_v, ↓tg, ↓rA, ↓chk_if, ↓reduceIte, inb_ii, ii_nat, ii_add, and_self, bi_zb, if_bi, if_bi1, ii_leT, ii_leF, ii_ltT, ii_ltF, ii_eqF, ii_m1F, ↓cb_2 hC, ↓cb_1 hC, ↓cb_3 hC, ↓cb_4 hC, ↓cb_5 hC, ↓cb_6 hC, ↓cb_7 hC, ↓cb_10 hC, ↓cb_17 hC, ↓cb_18 hC, ↓cb_19 hC, ↓cb_20 hC, ↓cb_21 hC, ↓cb_22 hC, ↓cb_23 hC, ↓cb_8 hC, ↓cb_9 hC, ↓cb_24 hC, ↓cb_16 hC, ↓cb29_0 hC, ↓cb29_1 hC, ↓sb_0 hS, ↓sb1_0 hS, ↓sb1_1 hS, ↓sb1_2 hS, ↓sb_1 hS, ↓sb_2 hS, ↓sb_3 hS, ↓sb_4 hS, ↓sb_5 hS, ↓sb_6 hS, ↓sb_7 hS, hC, hS, ↓bn_of (c_ones S (show S < 256 by omega)), ↓bn_of (c_ones b hb), h, ↓bn_of (hn S (show S < 256 by omega)), t, Bool.false_eq_true]
        · show poS P S b < 256
          unfold poS
          split
          · exact hb
          · split
            · omega
            · exact hb
      · intro q b hb
        show fX0_posts_b32 nf T N R (q + 1) (sI I (c + 34) v) c (ii d) y (ii b) (ii 255) = _
        rw [fX0_posts_b32]
        by_cases h : y = ii 0
        · simp (disch := omega) only [↓nm_v, ↓tg, ↓rA, ↓chk_if, ↓reduceIte, inb_ii, ii_nat, ii_add, and_self, bi_zb, if_bi, if_bi1, ii_leT, ii_leF, ii_ltT, ii_ltF, ii_eqF, ii_m1F, ↓cb_2 hC, ↓cb_1 hC, ↓cb_3 hC, ↓cb_4 hC, ↓cb_5 hC, ↓cb_6 hC, ↓cb_7 hC, ↓cb_10 hC, ↓cb_17 hC, ↓cb_18 hC, ↓cb_19 hC, ↓cb_20 hC, ↓cb_21 hC, ↓cb_22 hC, ↓cb_23 hC, ↓cb_8 hC, ↓cb_9 hC, ↓cb_24 hC, ↓cb_16 hC, ↓cb29_0 hC, ↓cb29_1 hC, ↓sb_0 hS, ↓sb1_0 hS, ↓sb1_1 hS, ↓sb1_2 hS, ↓sb_1 hS, ↓sb_2 hS, ↓sb_3 hS, ↓sb_4 hS, ↓sb_5 hS, ↓sb_6 hS, ↓sb_7 hS, hC, hS, ↓bn_of (c_ones b hb), h]
        · simp (disch := omega) only [↓nm_v, ↓tg, ↓rA, ↓chk_if, ↓reduceIte, inb_ii, ii_nat, ii_add, and_self, bi_zb, if_bi, if_bi1, ii_leT, ii_leF, ii_ltT, ii_ltF, ii_eqF, ii_m1F, ↓cb_2 hC, ↓cb_1 hC, ↓cb_3 hC, ↓cb_4 hC, ↓cb_5 hC, ↓cb_6 hC, ↓cb_7 hC, ↓cb_10 hC, ↓cb_17 hC, ↓cb_18 hC, ↓cb_19 hC, ↓cb_20 hC, ↓cb_21 hC, ↓cb_22 hC, ↓cb_23 hC, ↓cb_8 hC, ↓cb_9 hC, ↓cb_24 hC, ↓cb_16 hC, ↓cb29_0 hC, ↓cb29_1 hC, ↓sb_0 hS, ↓sb1_0 hS, ↓sb1_1 hS, ↓sb1_2 hS, ↓sb_1 hS, ↓sb_2 hS, ↓sb_3 hS, ↓sb_4 hS, ↓sb_5 hS, ↓sb_6 hS, ↓sb_7 hS, hC, hS, ↓bn_of (c_ones b hb), h]
theorem m_posts (hM : MSh m T N R) (hG : GrM I m n A B W) (hP : GrP n A B W) (hnf : 300 < nf) (x y : Int32) :
    ∃ v, fX5_posts nf T N I R m x y = some (postsA A B W n x y, sI (uI I m 0 (ii 0)) (m + 22) v) := by
  have hG2 := GrM_t hG 0 (ii 0)
  unfold fX5_posts postsA
  cases h1 : rg x 0 50 with
  | false =>
    refine ⟨uI I m 0 (ii 0) (m + 22), ?_⟩
    rw [sI_id]
    simp (disch := omega) only [↓nm_v, ↓tg, ↓rA, ↓chk_if, ↓reduceIte, inb_ii, ii_nat, ii_add, and_self, bi_zb, if_bi, if_bi1, ii_leT, ii_leF, ii_ltT, ii_ltF, ii_eqF, ii_m1F, ↓mb_2 hM, ↓mb_3 hM, ↓mb_4 hM, ↓mb_5 hM, ↓mb_6 hM, ↓mb_7 hM, ↓mb_9 hM, ↓mb_10 hM, ↓mb_12 hM, ↓mb_22 hM, ↓mb_24 hM, ↓mb_25 hM, ↓mb_27 hM, ↓mb_28 hM, ↓mb_31 hM, ↓mb_32 hM, ↓mb_33 hM, ↓mb_35 hM, ↓mb_36 hM, ↓mb_37 hM, ↓mb_41 hM, ↓mb_42 hM, ↓mb_43 hM, ↓mb_44 hM, ↓mb_45 hM, ↓mb_46 hM, ↓mb_47 hM, ↓mb_48 hM, ↓mb_49 hM, ↓mb_55 hM, hM, ↓bn_of (m_i0_50 x), h1, false_and, Bool.false_eq_true]
  | true =>
    cases h2 : rg y 0 1 with
    | false =>
      refine ⟨uI I m 0 (ii 0) (m + 22), ?_⟩
      rw [sI_id]
      simp (disch := omega) only [↓nm_v, ↓tg, ↓rA, ↓chk_if, ↓reduceIte, inb_ii, ii_nat, ii_add, and_self, bi_zb, if_bi, if_bi1, ii_leT, ii_leF, ii_ltT, ii_ltF, ii_eqF, ii_m1F, ↓mb_2 hM, ↓mb_3 hM, ↓mb_4 hM, ↓mb_5 hM, ↓mb_6 hM, ↓mb_7 hM, ↓mb_9 hM, ↓mb_10 hM, ↓mb_12 hM, ↓mb_22 hM, ↓mb_24 hM, ↓mb_25 hM, ↓mb_27 hM, ↓mb_28 hM, ↓mb_31 hM, ↓mb_32 hM, ↓mb_33 hM, ↓mb_35 hM, ↓mb_36 hM, ↓mb_37 hM, ↓mb_41 hM, ↓mb_42 hM, ↓mb_43 hM, ↓mb_44 hM, ↓mb_45 hM, ↓mb_46 hM, ↓mb_47 hM, ↓mb_48 hM, ↓mb_49 hM, ↓mb_55 hM, hM, ↓bn_of (m_i0_50 x), ↓bn_of (m_i0_1 y), h1, h2, and_false, Bool.false_eq_true]
    | true =>
      obtain ⟨d, rfl, hd, _⟩ := rg_ex (hi := 50) h1
      obtain ⟨v, e, hv⟩ := m_layFar hM hG2 hP (show 70 < nf by omega)
      refine ⟨v, ?_⟩
      have hD := fw_le64 (fwK 100000000 hP).1
      have h2' := fw_two (F := 1000000) (G := 100000000) (by omega) (by omega) hP.2.1 hP.2.2.1 hP.2.2.2.1 hP.2.2.2.2
      have hn := fun S (h : S < 256) => m_allNear (I := sI (uI I m 0 (ii 0)) (m + 22) v) (nf := nf) (S := S) (d := d) hM (GrM_s hG2 (by omega) v) hP (by rw [sI_at]; exact hv) hD (by omega) h hd
      simp (disch := omega) only [↓nm_v, ↓tg, ↓rA, ↓chk_if, ↓reduceIte, inb_ii, ii_nat, ii_add, and_self, bi_zb, if_bi, if_bi1, ii_leT, ii_leF, ii_ltT, ii_ltF, ii_eqF, ii_m1F, ↓mb_2 hM, ↓mb_3 hM, ↓mb_4 hM, ↓mb_5 hM, ↓mb_6 hM, ↓mb_7 hM, ↓mb_9 hM, ↓mb_10 hM, ↓mb_12 hM, ↓mb_22 hM, ↓mb_24 hM, ↓mb_25 hM, ↓mb_27 hM, ↓mb_28 hM, ↓mb_31 hM, ↓mb_32 hM, ↓mb_33 hM, ↓mb_35 hM, ↓mb_36 hM, ↓mb_37 hM, ↓mb_41 hM, ↓mb_42 hM, ↓mb_43 hM, ↓mb_44 hM, ↓mb_45 hM, ↓mb_46 hM, ↓mb_47 hM, ↓mb_48 hM, ↓mb_49 hM, ↓mb_55 hM, hM, ↓bn_of (m_i0_50 (ii d)), ↓bn_of (m_i0_1 y), h1, h2, ↓bn_of e]
      generalize hPP : (fun S => allF (nr (fwA 1000000 A B W n) A B n S d) 8 0) = P
      have hn : ∀ S, S < 256 → fX5_allNear nf T N (sI (uI I m 0 (ii 0)) (m + 22) v) R m (ii S) (ii d) = some (bi (P S)) := by
        intro S h
        rw [hn S h, ← hPP]
        show _ = some (bi (allF (nr (fwA 1000000 A B W n) A B n S d) 8 0))
        rw [allF_congr 8 0 (fun c _ hc => nr_two hd h2' A B n S (c := c) (by omega))]
      have h255 : P 255 = true := by
        rw [← hPP]
        refine allF_t 8 0 (fun k _ hk => ?_)
        have hk8 : k < 8 := by omega
        have hz := (fwK 1000000 hP).2.1 k hk8
        have key : ∀ d' b, k < d' → rngF (nrS (fwA 1000000 A B W n) 255 d k) d' 0 b = true := by
          intro d'
          induction d' with
          | zero => intro b h; omega
          | succ d' ih =>
            intro b h
            rw [rngF_s]
            unfold nrS
            by_cases q : k = d'
            · subst q
              rw [all_255 k hk8, hz, decide_eq_true (Nat.zero_le d)]
              simp
            · have := ih b (by omega)
              unfold nrS at this
              rw [this]
              simp
        exact key 8 _ hk8
      have hpm := pm_po P h255
      have := loop_up (fun q (p : Nat × Nat) S => fX5_posts_b43 nf T N R q (sI (uI I m 0 (ii 0)) (m + 22) v) m (ii d) y (ii p.1) (ii p.2) (ii S)) (pmS P) (fun _ p => p.1 ≤ 100000000) 256 (fun p => some (if y = ii 0 then ii p.1 else ii p.2, sI (uI I m 0 (ii 0)) (m + 22) v)) ?_ ?_ 256 0 (100000000, 0) nf (by omega) (by omega) (by decide)
      · refine this.trans ?_
        rw [hpm]
      · rintro q ⟨l, b⟩ S hS' hl
        have hl : l ≤ 100000000 := hl
        have c2 := cd_8 S (by omega)
        refine ⟨?_, ?_⟩
        · show fX5_posts_b43 nf T N R (q + 1) (sI (uI I m 0 (ii 0)) (m + 22) v) m (ii d) y (ii l) (ii b) (ii S) = fX5_posts_b43 nf T N R q (sI (uI I m 0 (ii 0)) (m + 22) v) m (ii d) y (ii (pmS P S (l, b)).1) (ii (pmS P S (l, b)).2) (ii (S + 1))
          rw [fX5_posts_b43]
          unfold pmS
          by_cases h : l ≤ cdN S
          · simp (disch := omega) only [↓nm_v, ↓tg, ↓rA, ↓chk_if, ↓reduceIte, inb_ii, ii_nat, ii_add, and_self, bi_zb, if_bi, if_bi1, ii_leT, ii_leF, ii_ltT, ii_ltF, ii_eqF, ii_m1F, ↓mb_2 hM, ↓mb_3 hM, ↓mb_4 hM, ↓mb_5 hM, ↓mb_6 hM, ↓mb_7 hM, ↓mb_9 hM, ↓mb_10 hM, ↓mb_12 hM, ↓mb_22 hM, ↓mb_24 hM, ↓mb_25 hM, ↓mb_27 hM, ↓mb_28 hM, ↓mb_31 hM, ↓mb_32 hM, ↓mb_33 hM, ↓mb_35 hM, ↓mb_36 hM, ↓mb_37 hM, ↓mb_41 hM, ↓mb_42 hM, ↓mb_43 hM, ↓mb_44 hM, ↓mb_45 hM, ↓mb_46 hM, ↓mb_47 hM, ↓mb_48 hM, ↓mb_49 hM, ↓mb_55 hM, hM, ↓bn_of (m_ones (nf := nf) (show 70 < nf by omega) (show S < 256 by omega)), h]
          · cases t : P S with
            | true => simp (disch := omega) only [↓nm_v, ↓tg, ↓rA, ↓chk_if, ↓reduceIte, inb_ii, ii_nat, ii_add, and_self, bi_zb, if_bi, if_bi1, ii_leT, ii_leF, ii_ltT, ii_ltF, ii_eqF, ii_m1F, ↓mb_2 hM, ↓mb_3 hM, ↓mb_4 hM, ↓mb_5 hM, ↓mb_6 hM, ↓mb_7 hM, ↓mb_9 hM, ↓mb_10 hM, ↓mb_12 hM, ↓mb_22 hM, ↓mb_24 hM, ↓mb_25 hM, ↓mb_27 hM, ↓mb_28 hM, ↓mb_31 hM, ↓mb_32 hM, ↓mb_33 hM, ↓mb_35 hM, ↓mb_36 hM, ↓mb_37 hM, ↓mb_41 hM, ↓mb_42 hM, ↓mb_43 hM, ↓mb_44 hM, ↓mb_45 hM, ↓mb_46 hM, ↓mb_47 hM, ↓mb_48 hM, ↓mb_49 hM, ↓mb_55 hM, hM, ↓bn_of (m_ones (nf := nf) (show 70 < nf by omega) (show S < 256 by omega)), h, ↓bn_of (hn S (show S < 256 by omega)), t]
            | false => simp (disch := omega) only [↓nm_v, ↓tg, ↓rA, ↓chk_if, ↓reduceIte, inb_ii, ii_nat, ii_add, and_self, bi_zb, if_bi, if_bi1, ii_leT, ii_leF, ii_ltT, ii_ltF, ii_eqF, ii_m1F, ↓mb_2 hM, ↓mb_3 hM, ↓mb_4 hM, ↓mb_5 hM, ↓mb_6 hM, ↓mb_7 hM, ↓mb_9 hM, ↓mb_10 hM, ↓mb_12 hM, ↓mb_22 hM, ↓mb_24 hM, ↓mb_25 hM, ↓mb_27 hM, ↓mb_28 hM, ↓mb_31 hM, ↓mb_32 hM, ↓mb_33 hM, ↓mb_35 hM, ↓mb_36 hM, ↓mb_37 hM, ↓mb_41 hM, ↓mb_42 hM, ↓mb_43 hM, ↓mb_44 hM, ↓mb_45 hM, ↓mb_46 hM, ↓mb_47 hM, ↓mb_48 hM, ↓mb_49 hM, ↓mb_55 hM, hM, ↓bn_of (m_ones (nf := nf) (show 70 < nf by omega) (show S < 256 by omega)), h, ↓bn_of (hn S (show S < 256 by omega)), t, Bool.false_eq_true]
        · show (pmS P S (l, b)).1 ≤ 100000000
          unfold pmS
          split
          · exact hl
          · split
            · show cdN S ≤ 100000000
              omega
            · exact hl
      · rintro q ⟨l, b⟩ _
        show fX5_posts_b43 nf T N R (q + 1) (sI (uI I m 0 (ii 0)) (m + 22) v) m (ii d) y (ii l) (ii b) (ii 256) = _
        rw [fX5_posts_b43]
        by_cases h : y = ii 0
        · simp (disch := omega) only [↓nm_v, ↓tg, ↓rA, ↓chk_if, ↓reduceIte, inb_ii, ii_nat, ii_add, and_self, bi_zb, if_bi, if_bi1, ii_leT, ii_leF, ii_ltT, ii_ltF, ii_eqF, ii_m1F, ↓mb_2 hM, ↓mb_3 hM, ↓mb_4 hM, ↓mb_5 hM, ↓mb_6 hM, ↓mb_7 hM, ↓mb_9 hM, ↓mb_10 hM, ↓mb_12 hM, ↓mb_22 hM, ↓mb_24 hM, ↓mb_25 hM, ↓mb_27 hM, ↓mb_28 hM, ↓mb_31 hM, ↓mb_32 hM, ↓mb_33 hM, ↓mb_35 hM, ↓mb_36 hM, ↓mb_37 hM, ↓mb_41 hM, ↓mb_42 hM, ↓mb_43 hM, ↓mb_44 hM, ↓mb_45 hM, ↓mb_46 hM, ↓mb_47 hM, ↓mb_48 hM, ↓mb_49 hM, ↓mb_55 hM, hM, h]
        · simp (disch := omega) only [↓nm_v, ↓tg, ↓rA, ↓chk_if, ↓reduceIte, inb_ii, ii_nat, ii_add, and_self, bi_zb, if_bi, if_bi1, ii_leT, ii_leF, ii_ltT, ii_ltF, ii_eqF, ii_m1F, ↓mb_2 hM, ↓mb_3 hM, ↓mb_4 hM, ↓mb_5 hM, ↓mb_6 hM, ↓mb_7 hM, ↓mb_9 hM, ↓mb_10 hM, ↓mb_12 hM, ↓mb_22 hM, ↓mb_24 hM, ↓mb_25 hM, ↓mb_27 hM, ↓mb_28 hM, ↓mb_31 hM, ↓mb_32 hM, ↓mb_33 hM, ↓mb_35 hM, ↓mb_36 hM, ↓mb_37 hM, ↓mb_41 hM, ↓mb_42 hM, ↓mb_43 hM, ↓mb_44 hM, ↓mb_45 hM, ↓mb_46 hM, ↓mb_47 hM, ↓mb_48 hM, ↓mb_49 hM, ↓mb_55 hM, hM, h]
end
