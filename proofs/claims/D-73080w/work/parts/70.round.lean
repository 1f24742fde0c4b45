/-! PLAIN LAND, 20: rounds, both sides -/
theorem ii_clr : ∀ S, S < 256 → ∀ a, a < 8 → ii S &&& ((ii 1 <<< (ii a &&& ii 31)) ^^^ (-1 : Int32)) = ii (clr S a) := by decide +kernel
theorem c_ctz : ∀ S, S < 256 → S ≠ 0 → fJ13_numberOfTrailingZeros (ii S) = some (ii (ctzN S)) := by decide +kernel
theorem ii_bit : ∀ k, k < 8 → ii 1 <<< (ii k &&& ii 31) = ii (2 ^ k) := by decide +kernel
theorem upd_upd (t : Nat → Int32) (S : Nat) (v w : Int32) : upd (upd t S v) S w = upd t S w := by
  funext j
  rw [upd_at, upd_at, upd_at]
  split <;> rfl
/-- corners at which lanes are odd -/
def oddS (A B : Nat → Nat) (n k o : Nat) : Nat := if deg A B n (ii k) % 2 = 1 then o ||| 2 ^ k else o
def oddN (A B : Nat → Nat) (n : Nat) : Nat := rngF (oddS A B n) 8 0 0
theorem odd_ok (A B : Nat → Nat) (n : Nat) : oddN A B n < 256 ∧ ∀ k, k < 8 → (oddN A B n).testBit k = decide (deg A B n (ii k) % 2 = 1) := by
  have h : ∀ d, d ≤ 8 → rngF (oddS A B n) d 0 0 < 256 ∧ (∀ k, k < d → (rngF (oddS A B n) d 0 0).testBit k = decide (deg A B n (ii k) % 2 = 1)) ∧ ∀ k, d ≤ k → (rngF (oddS A B n) d 0 0).testBit k = false := by
    intro d
    induction d with
    | zero => intro _; exact ⟨by show (0 : Nat) < 256; omega, fun k hk => by omega, fun k _ => Nat.zero_testBit k⟩
    | succ d ih =>
      intro hd
      obtain ⟨h1, h2, h3⟩ := ih (by omega)
      rw [rngF_s]
      unfold oddS
      by_cases q : deg A B n (ii d) % 2 = 1
      · rw [if_pos q]
        refine ⟨Nat.or_lt_two_pow (n := 8) h1 (Nat.pow_lt_pow_right (by omega) (by omega)), ?_, ?_⟩
        · intro k hk
          rw [Nat.testBit_or, Nat.testBit_two_pow]
          by_cases q2 : k = d
          · subst q2
            rw [decide_eq_true rfl, decide_eq_true q, Bool.or_true]
          · rw [decide_eq_false (fun h => q2 h.symm), Bool.or_false]
            exact h2 k (by omega)
        · intro k hk
          rw [Nat.testBit_or, Nat.testBit_two_pow, decide_eq_false (by omega), Bool.or_false]
          exact h3 k (by omega)
      · rw [if_neg q]
        refine ⟨h1, ?_, fun k hk => h3 k (by omega)⟩
        intro k hk
        by_cases q2 : k = d
        · subst q2
          rw [decide_eq_false q]
          exact h3 k (Nat.le_refl _)
        · exact h2 k (by omega)
  obtain ⟨h1, h2, _⟩ := h 8 (Nat.le_refl _)
  exact ⟨h1, h2⟩
theorem smN_mod (f : Nat → Nat) (n : Nat) : smN (fun i => f i % 2) n % 2 = smN f n % 2 := by
  induction n with
  | zero => rfl
  | succ n ih => rw [smN_succ, smN_succ]; omega
theorem odd_even {A B W : Nat → Nat} {n : Nat} (hP : GrP n A B W) : cdN (oddN A B n) % 2 = 0 := by
  obtain ⟨hn, hA, hB, hne, _⟩ := hP
  have e1 : cdN (oddN A B n) = smN (fun k => deg A B n (ii k) % 2) 8 := by
    have h := (odd_ok A B n).2
    have e : ∀ k, k < 8 → deg A B n (ii k) % 2 = ((oddN A B n).testBit k).toNat := by
      intro k hk
      rw [h k hk]
      by_cases q : deg A B n (ii k) % 2 = 1
      · rw [decide_eq_true q, q]; rfl
      · rw [decide_eq_false q]
        show _ = 0
        omega
    have s8 : ∀ f : Nat → Nat, smN f 8 = f 0 + f 1 + f 2 + f 3 + f 4 + f 5 + f 6 + f 7 := by
      intro f
      simp only [smN, rngF, Nat.reduceAdd, Nat.zero_add]
    rw [smN_congr e, s8]
    rfl
  have e2 : smN (fun k => deg A B n (ii k)) 8 = smN (fun _ => 2) n := by
    rw [smN_congr (f := fun k => deg A B n (ii k)) (g := fun k => smN (fun l => (atE A B l (ii k)).toNat) n) (fun k _ => rfl), smN_swap (fun k l => (atE A B l (ii k)).toNat)]
    apply smN_congr
    intro l hl
    have a1 := hA l hl
    have a2 := hB l hl
    have a3 := hne l hl
    have e : ∀ k, k < 8 → (atE A B l (ii k)).toNat = (if k = A l then (fun _ => 1) k else 0) + (if k = B l then (fun _ => 1) k else 0) := by
      intro k hk
      unfold atE
      rw [ii_deq (by omega) (by omega), ii_deq (by omega) (by omega)]
      by_cases q1 : A l = k
      · rw [if_pos q1.symm, if_neg (by omega), decide_eq_true q1]; rfl
      · by_cases q2 : B l = k
        · rw [if_neg (fun h => q1 h.symm), if_pos q2.symm, decide_eq_false q1, decide_eq_true q2]; rfl
        · rw [if_neg (fun h => q1 h.symm), if_neg (fun h => q2 h.symm), decide_eq_false q1, decide_eq_false q2]; rfl
    rw [smN_congr e, smN_add, smN_one a1, smN_one a2]
  have e3 : ∀ n, smN (fun _ => 2) n = 2 * n := by
    intro n
    induction n with
    | zero => rfl
    | succ n ih => rw [smN_succ, ih]; omega
  have := smN_mod (fun k => deg A B n (ii k)) 8
  rw [e1, this, e2, e3]
  omega
/-- pairs up alike by two squares that agree there -/
theorem pu_congr {F : Nat} {D E : Nat → Nat} : ∀ (e S : Nat), S < 256 → (∀ a b, a < 8 → b < 8 → S.testBit a = true → S.testBit b = true → D (8 * a + b) = E (8 * a + b)) → pu F D e S = pu F E e S := by
  intro e
  induction e with
  | zero => intro S _ _; rfl
  | succ e ih =>
    intro S hS h
    rw [pu_s, pu_s]
    by_cases h0 : S = 0
    · rw [if_pos h0, if_pos h0]
    · rw [if_neg h0, if_neg h0]
      obtain ⟨hf, hfm, _⟩ := ctz_ok S hS h0
      have hL := clr_lt S hS _ hf
      apply rngF_congr
      intro k x _ hk
      have hk8 : k < 8 := by omega
      unfold puB
      by_cases q : (clr S (ctzN S)).testBit k = true
      · rw [if_pos q, if_pos q]
        have hm : ∀ a, a < 8 → (clr S (ctzN S)).testBit a = true → S.testBit a = true := by
          intro a ha h1
          rw [clr_mem S hS _ hf a ha, Bool.and_eq_true] at h1
          exact h1.1
        rw [h _ k hf hk8 hfm (hm k hk8 q), ih (clr (clr S (ctzN S)) k) (clr_lt _ hL k hk8) (fun a b ha hb h1 h2 => by
          rw [clr_mem _ hL k hk8 a ha, Bool.and_eq_true] at h1
          rw [clr_mem _ hL k hk8 b hb, Bool.and_eq_true] at h2
          exact h a b ha hb (hm a ha h1.1) (hm b hb h2.1))]
      · rw [if_neg q, if_neg q]
/-- the table by sets -/
def tbl (G : Nat) (d : Nat → Nat) : Nat → Nat → Nat
  | 0 => fun _ => 0
  | S + 1 => updN (tbl G d S) S (dpS G d (tbl G d S) S)
theorem tbl_fix (G : Nat) (d : Nat → Nat) {S x : Nat} (hx : x < S) : ∀ k, tbl G d (S + k) x = tbl G d S x := by
  intro k
  induction k with
  | zero => rfl
  | succ k ih =>
    show updN (tbl G d (S + k)) (S + k) _ x = _
    rw [updN_at, if_neg (by omega), ih]
theorem dp_congr {G : Nat} {d T U : Nat → Nat} {S : Nat} (hS : S < 256) (h : ∀ x, x < S → T x = U x) : dpS G d T S = dpS G d U S := by
  unfold dpS
  apply rngF_congr
  intro a x _ ha
  apply rngF_congr
  intro b y _ hb
  unfold dpB
  by_cases q : S.testBit a = true ∧ S.testBit b = true ∧ d (8 * a + b) < G
  · rw [if_pos q, if_pos q]
    have h1 := clr_less S hS a (by omega) q.1
    have hL := clr_lt S hS a (by omega)
    have h2 := clr_less _ hL b (by omega) (by rw [clr_mem S hS a (by omega) b (by omega), q.2.1]; simp; omega)
    rw [h _ (by omega)]
  · rw [if_neg q, if_neg q]
theorem tbl_ok (G : Nat) (d : Nat → Nat) : ∀ S, S < 256 → tbl G d 256 S = dpS G d (tbl G d 256) S := by
  intro S hS
  have e1 : tbl G d 256 S = tbl G d (S + 1) S := by
    have := tbl_fix G d (S := S + 1) (x := S) (by omega) (255 - S)
    rw [show S + 1 + (255 - S) = 256 by omega] at this
    exact this
  rw [e1]
  show updN (tbl G d S) S (dpS G d (tbl G d S) S) S = _
  rw [updN_at, if_pos rfl]
  refine dp_congr hS (fun x hx => ?_)
  have := tbl_fix G d (S := S) (x := x) hx (256 - S)
  rw [show S + (256 - S) = 256 by omega] at this
  exact this.symm
theorem tbl_le (G : Nat) (d : Nat → Nat) (k : Nat) : ∀ x, tbl G d k x ≤ G := by
  induction k with
  | zero => intro x; exact Nat.zero_le _
  | succ k ih =>
    intro x
    show updN (tbl G d k) k _ x ≤ G
    rw [updN_at]
    split
    · refine Nat.le_trans (mn_le (fun a x => mn_le (dpB_le G d _ k a) _ _ _) 8 0 _) ?_
      split <;> omega
    · exact ih x
section
variable {T N : xT} {R : xR} {I : xI} {c s m n nf : Nat} {A B W : Nat → Nat} {D : Nat → Nat}
theorem c_pairsUp (hC : CSh c s T N R) (hS : StSh s T N R) (hx : arN 64 (I (c + 34)) D) (hD : ∀ j, j < 64 → D j ≤ 1000000) (hnf : 70 < nf) : ∀ (e S : Nat), S < 256 → cdN S ≤ 2 * e + 1 → fX0_pairsUp nf (e + 1) T N I R c (ii S) = some (ii (pu 1000000 D (e + 1) S)) := by
  intro e
  induction e with
  | zero =>
    intro S hS2 hc
    rw [fX0_pairsUp, fX0_pairsUp_E, pu_s]
    by_cases h0 : S = 0
    · simp (disch := omega) only [↓nm_v, ↓tg, ↓rA, ↓chk_if, ↓reduceIte, inb_ii, ii_nat, ii_add, and_self, bi_zb, if_bi, if_bi1, ii_leT, ii_leF, ii_ltT, ii_ltF, ii_eqF, ii_m1F, ↓cb_2 hC, ↓cb_1 hC, ↓cb_3 hC, ↓cb_4 hC, ↓cb_5 hC, ↓cb_6 hC, ↓cb_7 hC, ↓cb_10 hC, ↓cb_17 hC, ↓cb_18 hC, ↓cb_19 hC, ↓cb_20 hC, ↓cb_21 hC, ↓cb_22 hC, ↓cb_23 hC, ↓cb_8 hC, ↓cb_9 hC, ↓cb_24 hC, ↓cb_16 hC, ↓cb29_0 hC, ↓cb29_1 hC, ↓sb_0 hS, ↓sb1_0 hS, ↓sb1_1 hS, ↓sb1_2 hS, ↓sb_1 hS, ↓sb_2 hS, ↓sb_3 hS, ↓sb_4 hS, ↓sb_5 hS, ↓sb_6 hS, ↓sb_7 hS, hC, hS, h0]
    · obtain ⟨hf, hfm, _⟩ := ctz_ok S hS2 h0
      have hL := clr_lt S hS2 _ hf
      have k1 := (clr_less S hS2 _ hf hfm).2
      have hLz := cd_0 _ hL (by omega)
      simp (disch := omega) only [↓nm_v, ↓tg, ↓rA, ↓chk_if, ↓reduceIte, inb_ii, ii_nat, ii_add, and_self, bi_zb, if_bi, if_bi1, ii_leT, ii_leF, ii_ltT, ii_ltF, ii_eqF, ii_m1F, ↓cb_2 hC, ↓cb_1 hC, ↓cb_3 hC, ↓cb_4 hC, ↓cb_5 hC, ↓cb_6 hC, ↓cb_7 hC, ↓cb_10 hC, ↓cb_17 hC, ↓cb_18 hC, ↓cb_19 hC, ↓cb_20 hC, ↓cb_21 hC, ↓cb_22 hC, ↓cb_23 hC, ↓cb_8 hC, ↓cb_9 hC, ↓cb_24 hC, ↓cb_16 hC, ↓cb29_0 hC, ↓cb29_1 hC, ↓sb_0 hS, ↓sb1_0 hS, ↓sb1_1 hS, ↓sb1_2 hS, ↓sb_1 hS, ↓sb_2 hS, ↓sb_3 hS, ↓sb_4 hS, ↓sb_5 hS, ↓sb_6 hS, ↓sb_7 hS, hC, hS, ↓bn_of (c_ctz S hS2 h0), h0, ii_clr, hLz]
      refine loop0 (fun q v k => fX0_pairsUp_b27 nf (fX0_pairsUp nf 0) T N I R q c (ii (ctzN S)) (ii 0) (ii v) (ii k)) (puB D (ctzN S) (pu 1000000 D 0) 0) 8 (fun v => some (ii v)) ?_ ?_ (by omega) 1000000
      · intro q v k hk
        show fX0_pairsUp_b27 nf (fX0_pairsUp nf 0) T N I R (q + 1) c (ii (ctzN S)) (ii 0) (ii v) (ii k) = fX0_pairsUp_b27 nf (fX0_pairsUp nf 0) T N I R q c (ii (ctzN S)) (ii 0) (ii (puB D (ctzN S) (pu 1000000 D 0) 0 k v)) (ii (k + 1))
        rw [fX0_pairsUp_b27]
        unfold puB
        simp (disch := omega) only [↓nm_v, ↓tg, ↓rA, ↓chk_if, ↓reduceIte, inb_ii, ii_nat, ii_add, and_self, bi_zb, if_bi, if_bi1, ii_leT, ii_leF, ii_ltT, ii_ltF, ii_eqF, ii_m1F, ↓cb_2 hC, ↓cb_1 hC, ↓cb_3 hC, ↓cb_4 hC, ↓cb_5 hC, ↓cb_6 hC, ↓cb_7 hC, ↓cb_10 hC, ↓cb_17 hC, ↓cb_18 hC, ↓cb_19 hC, ↓cb_20 hC, ↓cb_21 hC, ↓cb_22 hC, ↓cb_23 hC, ↓cb_8 hC, ↓cb_9 hC, ↓cb_24 hC, ↓cb_16 hC, ↓cb29_0 hC, ↓cb29_1 hC, ↓sb_0 hS, ↓sb1_0 hS, ↓sb1_1 hS, ↓sb1_2 hS, ↓sb_1 hS, ↓sb_2 hS, ↓sb_3 hS, ↓sb_4 hS, ↓sb_5 hS, ↓sb_6 hS, ↓sb_7 hS, hC, hS, ↓bn_of (c_isOf 0 (by omega) k hk), Nat.zero_testBit, Bool.false_eq_true]
      · intro q v
        show fX0_pairsUp_b27 nf (fX0_pairsUp nf 0) T N I R (q + 1) c (ii (ctzN S)) (ii 0) (ii v) (ii 8) = _
        rw [fX0_pairsUp_b27]
        simp (disch := omega) only [↓nm_v, ↓tg, ↓rA, ↓chk_if, ↓reduceIte, inb_ii, ii_nat, ii_add, and_self, bi_zb, if_bi, if_bi1, ii_leT, ii_leF, ii_ltT, ii_ltF, ii_eqF, ii_m1F, ↓cb_2 hC, ↓cb_1 hC, ↓cb_3 hC, ↓cb_4 hC, ↓cb_5 hC, ↓cb_6 hC, ↓cb_7 hC, ↓cb_10 hC, ↓cb_17 hC, ↓cb_18 hC, ↓cb_19 hC, ↓cb_20 hC, ↓cb_21 hC, ↓cb_22 hC, ↓cb_23 hC, ↓cb_8 hC, ↓cb_9 hC, ↓cb_24 hC, ↓cb_16 hC, ↓cb29_0 hC, ↓cb29_1 hC, ↓sb_0 hS, ↓sb1_0 hS, ↓sb1_1 hS, ↓sb1_2 hS, ↓sb_1 hS, ↓sb_2 hS, ↓sb_3 hS, ↓sb_4 hS, ↓sb_5 hS, ↓sb_6 hS, ↓sb_7 hS, hC, hS]
  | succ e ih =>
    intro S hS2 hc
    rw [fX0_pairsUp, fX0_pairsUp_E, pu_s]
    by_cases h0 : S = 0
    · simp (disch := omega) only [↓nm_v, ↓tg, ↓rA, ↓chk_if, ↓reduceIte, inb_ii, ii_nat, ii_add, and_self, bi_zb, if_bi, if_bi1, ii_leT, ii_leF, ii_ltT, ii_ltF, ii_eqF, ii_m1F, ↓cb_2 hC, ↓cb_1 hC, ↓cb_3 hC, ↓cb_4 hC, ↓cb_5 hC, ↓cb_6 hC, ↓cb_7 hC, ↓cb_10 hC, ↓cb_17 hC, ↓cb_18 hC, ↓cb_19 hC, ↓cb_20 hC, ↓cb_21 hC, ↓cb_22 hC, ↓cb_23 hC, ↓cb_8 hC, ↓cb_9 hC, ↓cb_24 hC, ↓cb_16 hC, ↓cb29_0 hC, ↓cb29_1 hC, ↓sb_0 hS, ↓sb1_0 hS, ↓sb1_1 hS, ↓sb1_2 hS, ↓sb_1 hS, ↓sb_2 hS, ↓sb_3 hS, ↓sb_4 hS, ↓sb_5 hS, ↓sb_6 hS, ↓sb_7 hS, hC, hS, h0]
    · obtain ⟨hf, hfm, _⟩ := ctz_ok S hS2 h0
      have hL := clr_lt S hS2 _ hf
      have k1 := (clr_less S hS2 _ hf hfm).2
      simp (disch := omega) only [↓nm_v, ↓tg, ↓rA, ↓chk_if, ↓reduceIte, inb_ii, ii_nat, ii_add, and_self, bi_zb, if_bi, if_bi1, ii_leT, ii_leF, ii_ltT, ii_ltF, ii_eqF, ii_m1F, ↓cb_2 hC, ↓cb_1 hC, ↓cb_3 hC, ↓cb_4 hC, ↓cb_5 hC, ↓cb_6 hC, ↓cb_7 hC, ↓cb_10 hC, ↓cb_17 hC, ↓cb_18 hC, ↓cb_19 hC, ↓cb_20 hC, ↓cb_21 hC, ↓cb_22 hC, ↓cb_23 hC, ↓cb_8 hC, ↓cb_9 hC, ↓cb_24 hC, ↓cb_16 hC, ↓cb29_0 hC, ↓cb29_1 hC, ↓sb_0 hS, ↓sb1_0 hS, ↓sb1_1 hS, ↓sb1_2 hS, ↓sb_1 hS, ↓sb_2 hS, ↓sb_3 hS, ↓sb_4 hS, ↓sb_5 hS, ↓sb_6 hS, ↓sb_7 hS, hC, hS, ↓bn_of (c_ctz S hS2 h0), h0, ii_clr]
      generalize clr S (ctzN S) = L at hL k1 ⊢
      refine loop_up (fun q v k => fX0_pairsUp_b27 nf (fX0_pairsUp nf (e + 1)) T N I R q c (ii (ctzN S)) (ii L) (ii v) (ii k)) (puB D (ctzN S) (pu 1000000 D (e + 1)) L) (fun _ v => v ≤ 1000000) 8 (fun v => some (ii v)) ?_ ?_ 8 0 1000000 nf (by omega) (by omega) (by omega)
      · intro q v k hk hv
        refine ⟨?_, Nat.le_trans (puB_le _ _ _ _ _ _) hv⟩
        show fX0_pairsUp_b27 nf (fX0_pairsUp nf (e + 1)) T N I R (q + 1) c (ii (ctzN S)) (ii L) (ii v) (ii k) = fX0_pairsUp_b27 nf (fX0_pairsUp nf (e + 1)) T N I R q c (ii (ctzN S)) (ii L) (ii (puB D (ctzN S) (pu 1000000 D (e + 1)) L k v)) (ii (k + 1))
        rw [fX0_pairsUp_b27]
        unfold puB
        cases t : L.testBit k with
        | false => simp (disch := omega) only [↓nm_v, ↓tg, ↓rA, ↓chk_if, ↓reduceIte, inb_ii, ii_nat, ii_add, and_self, bi_zb, if_bi, if_bi1, ii_leT, ii_leF, ii_ltT, ii_ltF, ii_eqF, ii_m1F, ↓cb_2 hC, ↓cb_1 hC, ↓cb_3 hC, ↓cb_4 hC, ↓cb_5 hC, ↓cb_6 hC, ↓cb_7 hC, ↓cb_10 hC, ↓cb_17 hC, ↓cb_18 hC, ↓cb_19 hC, ↓cb_20 hC, ↓cb_21 hC, ↓cb_22 hC, ↓cb_23 hC, ↓cb_8 hC, ↓cb_9 hC, ↓cb_24 hC, ↓cb_16 hC, ↓cb29_0 hC, ↓cb29_1 hC, ↓sb_0 hS, ↓sb1_0 hS, ↓sb1_1 hS, ↓sb1_2 hS, ↓sb_1 hS, ↓sb_2 hS, ↓sb_3 hS, ↓sb_4 hS, ↓sb_5 hS, ↓sb_6 hS, ↓sb_7 hS, hC, hS, ↓bn_of (c_isOf L hL k hk), t, Bool.false_eq_true]
        | true =>
          have k2 := (clr_less _ hL k hk t).2
          have l1 := hD (8 * ctzN S + k) (by omega)
          have l2 := pu_F 1000000 D (e + 1) (clr L k)
          simp (disch := omega) only [↓nm_v, ↓tg, ↓rA, ↓chk_if, ↓reduceIte, inb_ii, ii_nat, ii_add, and_self, bi_zb, if_bi, if_bi1, ii_leT, ii_leF, ii_ltT, ii_ltF, ii_eqF, ii_m1F, ↓cb_2 hC, ↓cb_1 hC, ↓cb_3 hC, ↓cb_4 hC, ↓cb_5 hC, ↓cb_6 hC, ↓cb_7 hC, ↓cb_10 hC, ↓cb_17 hC, ↓cb_18 hC, ↓cb_19 hC, ↓cb_20 hC, ↓cb_21 hC, ↓cb_22 hC, ↓cb_23 hC, ↓cb_8 hC, ↓cb_9 hC, ↓cb_24 hC, ↓cb_16 hC, ↓cb29_0 hC, ↓cb29_1 hC, ↓sb_0 hS, ↓sb1_0 hS, ↓sb1_1 hS, ↓sb1_2 hS, ↓sb_1 hS, ↓sb_2 hS, ↓sb_3 hS, ↓sb_4 hS, ↓sb_5 hS, ↓sb_6 hS, ↓sb_7 hS, hC, hS, ↓bn_of (c_isOf L hL k hk), t, ↓bn_of (c_farOf hC hS hx hf hk), ii_clr, ↓bn_of (ih (clr L k) (clr_lt _ hL k hk) (show cdN (clr L k) ≤ 2 * e + 1 by omega)), ii_min]
      · intro q v _
        show fX0_pairsUp_b27 nf (fX0_pairsUp nf (e + 1)) T N I R (q + 1) c (ii (ctzN S)) (ii L) (ii v) (ii 8) = _
        rw [fX0_pairsUp_b27]
        simp (disch := omega) only [↓nm_v, ↓tg, ↓rA, ↓chk_if, ↓reduceIte, inb_ii, ii_nat, ii_add, and_self, bi_zb, if_bi, if_bi1, ii_leT, ii_leF, ii_ltT, ii_ltF, ii_eqF, ii_m1F, ↓cb_2 hC, ↓cb_1 hC, ↓cb_3 hC, ↓cb_4 hC, ↓cb_5 hC, ↓cb_6 hC, ↓cb_7 hC, ↓cb_10 hC, ↓cb_17 hC, ↓cb_18 hC, ↓cb_19 hC, ↓cb_20 hC, ↓cb_21 hC, ↓cb_22 hC, ↓cb_23 hC, ↓cb_8 hC, ↓cb_9 hC, ↓cb_24 hC, ↓cb_16 hC, ↓cb29_0 hC, ↓cb29_1 hC, ↓sb_0 hS, ↓sb1_0 hS, ↓sb1_1 hS, ↓sb1_2 hS, ↓sb_1 hS, ↓sb_2 hS, ↓sb_3 hS, ↓sb_4 hS, ↓sb_5 hS, ↓sb_6 hS, ↓sb_7 hS, hC, hS]
theorem m_pair3 (hM : MSh m T N R) (hx : arN 64 (I (m + 22)) D) (hD : ∀ j, j < 64 → D j ≤ 100000000) (hnf : 70 < nf) (k2 : xI → Nat → Int32 → Option xI) (k28 : xI → Nat → Int32 → Int32 → Option xI) {S a : Nat} (hS : S < 256) (ha : a < 8) {t : Nat → Int32} {U : Nat → Nat} (ht : arN S t U) (hU : ∀ x, U x ≤ 100000000) (x : Nat) (hx1 : x ≤ 100000000) :
    fX5_layPaired_b36 nf k2 k28 T N R nf (sI I (m + 26) (upd t S (ii x))) m (ii S) (ii a) (ii 0) = k28 (sI I (m + 26) (upd t S (ii (rngF (fun b x => dpB 100000000 D U S a b x) a 0 x)))) m (ii S) (ii (a + 1)) := by
  have hx' : arN 64 (sI I (m + 26) (upd t S (ii x)) (m + 22)) D := by rw [sI_ne (by omega)]; exact hx
  refine loop_up (fun q x b => fX5_layPaired_b36 nf k2 k28 T N R q (sI I (m + 26) (upd t S (ii x))) m (ii S) (ii a) (ii b)) (fun b x => dpB 100000000 D U S a b x) (fun _ x => x ≤ 100000000) a (fun x => k28 (sI I (m + 26) (upd t S (ii x))) m (ii S) (ii (a + 1))) ?_ ?_ a 0 x nf (by omega) (by omega) hx1
  · intro q x b hb hx1
    have hb8 : b < 8 := by omega
    refine ⟨?_, Nat.le_trans (dpB_le _ _ _ _ _ _ _) hx1⟩
    have hx' : arN 64 (sI I (m + 26) (upd t S (ii x)) (m + 22)) D := by rw [sI_ne (by omega)]; exact hx
    show fX5_layPaired_b36 nf k2 k28 T N R (q + 1) (sI I (m + 26) (upd t S (ii x))) m (ii S) (ii a) (ii b) = fX5_layPaired_b36 nf k2 k28 T N R q (sI I (m + 26) (upd t S (ii (dpB 100000000 D U S a b x)))) m (ii S) (ii a) (ii (b + 1))
    rw [fX5_layPaired_b36]
    unfold dpB
    cases t1 : S.testBit a with
    | false => simp (disch := omega) only [↓nm_v, ↓tg, ↓rA, ↓chk_if, ↓reduceIte, inb_ii, ii_nat, ii_add, and_self, bi_zb, if_bi, if_bi1, ii_leT, ii_leF, ii_ltT, ii_ltF, ii_eqF, ii_m1F, ↓mb_2 hM, ↓mb_3 hM, ↓mb_4 hM, ↓mb_5 hM, ↓mb_6 hM, ↓mb_7 hM, ↓mb_9 hM, ↓mb_10 hM, ↓mb_12 hM, ↓mb_22 hM, ↓mb_24 hM, ↓mb_25 hM, ↓mb_27 hM, ↓mb_28 hM, ↓mb_31 hM, ↓mb_32 hM, ↓mb_33 hM, ↓mb_35 hM, ↓mb_36 hM, ↓mb_37 hM, ↓mb_41 hM, ↓mb_42 hM, ↓mb_43 hM, ↓mb_44 hM, ↓mb_45 hM, ↓mb_46 hM, ↓mb_47 hM, ↓mb_48 hM, ↓mb_49 hM, ↓mb_55 hM, hM, ↓bn_of (m_is S hS a ha), t1, Bool.false_eq_true, false_and]
    | true =>
      cases t2 : S.testBit b with
      | false => simp (disch := omega) only [↓nm_v, ↓tg, ↓rA, ↓chk_if, ↓reduceIte, inb_ii, ii_nat, ii_add, and_self, bi_zb, if_bi, if_bi1, ii_leT, ii_leF, ii_ltT, ii_ltF, ii_eqF, ii_m1F, ↓mb_2 hM, ↓mb_3 hM, ↓mb_4 hM, ↓mb_5 hM, ↓mb_6 hM, ↓mb_7 hM, ↓mb_9 hM, ↓mb_10 hM, ↓mb_12 hM, ↓mb_22 hM, ↓mb_24 hM, ↓mb_25 hM, ↓mb_27 hM, ↓mb_28 hM, ↓mb_31 hM, ↓mb_32 hM, ↓mb_33 hM, ↓mb_35 hM, ↓mb_36 hM, ↓mb_37 hM, ↓mb_41 hM, ↓mb_42 hM, ↓mb_43 hM, ↓mb_44 hM, ↓mb_45 hM, ↓mb_46 hM, ↓mb_47 hM, ↓mb_48 hM, ↓mb_49 hM, ↓mb_55 hM, hM, ↓bn_of (m_is S hS a ha), ↓bn_of (m_is S hS b hb8), t1, t2, Bool.false_eq_true, false_and, and_false]
      | true =>
        have l1 := hD (8 * a + b) (by omega)
        by_cases h : D (8 * a + b) < 100000000
        · have h1 := clr_less S hS a ha t1
          have hL := clr_lt S hS a ha
          have h2 := clr_less _ hL b hb8 (by rw [clr_mem S hS a ha b hb8, t2]; simp; omega)
          have hLL := clr_lt _ hL b hb8
          have e1 := ht (clr (clr S a) b) (by omega)
          have l2 := hU (clr (clr S a) b)
          have ne : clr (clr S a) b ≠ S := by omega
          by_cases h3 : x ≤ U (clr (clr S a) b) + D (8 * a + b)
          · rw [show min (U (clr (clr S a) b) + D (8 * a + b)) x = x by omega]
            simp (disch := omega) only [↓nm_v, ↓tg, ↓rA, ↓chk_if, ↓reduceIte, inb_ii, ii_nat, ii_add, and_self, bi_zb, if_bi, if_bi1, ii_leT, ii_leF, ii_ltT, ii_ltF, ii_eqF, ii_m1F, ↓mb_2 hM, ↓mb_3 hM, ↓mb_4 hM, ↓mb_5 hM, ↓mb_6 hM, ↓mb_7 hM, ↓mb_9 hM, ↓mb_10 hM, ↓mb_12 hM, ↓mb_22 hM, ↓mb_24 hM, ↓mb_25 hM, ↓mb_27 hM, ↓mb_28 hM, ↓mb_31 hM, ↓mb_32 hM, ↓mb_33 hM, ↓mb_35 hM, ↓mb_36 hM, ↓mb_37 hM, ↓mb_41 hM, ↓mb_42 hM, ↓mb_43 hM, ↓mb_44 hM, ↓mb_45 hM, ↓mb_46 hM, ↓mb_47 hM, ↓mb_48 hM, ↓mb_49 hM, ↓mb_55 hM, hM, ↓bn_of (m_is S hS a ha), ↓bn_of (m_is S hS b hb8), t1, t2, ↓bn_of (m_farOf hM hx' hD ha hb8), ii_clr, sI_at, upd_at, ne, e1, uI_sI, upd_upd, h]
          · rw [show min (U (clr (clr S a) b) + D (8 * a + b)) x = U (clr (clr S a) b) + D (8 * a + b) by omega]
            simp (disch := omega) only [↓nm_v, ↓tg, ↓rA, ↓chk_if, ↓reduceIte, inb_ii, ii_nat, ii_add, and_self, bi_zb, if_bi, if_bi1, ii_leT, ii_leF, ii_ltT, ii_ltF, ii_eqF, ii_m1F, ↓mb_2 hM, ↓mb_3 hM, ↓mb_4 hM, ↓mb_5 hM, ↓mb_6 hM, ↓mb_7 hM, ↓mb_9 hM, ↓mb_10 hM, ↓mb_12 hM, ↓mb_22 hM, ↓mb_24 hM, ↓mb_25 hM, ↓mb_27 hM, ↓mb_28 hM, ↓mb_31 hM, ↓mb_32 hM, ↓mb_33 hM, ↓mb_35 hM, ↓mb_36 hM, ↓mb_37 hM, ↓mb_41 hM, ↓mb_42 hM, ↓mb_43 hM, ↓mb_44 hM, ↓mb_45 hM, ↓mb_46 hM, ↓mb_47 hM, ↓mb_48 hM, ↓mb_49 hM, ↓mb_55 hM, hM, ↓bn_of (m_is S hS a ha), ↓bn_of (m_is S hS b hb8), t1, t2, ↓bn_of (m_farOf hM hx' hD ha hb8), ii_clr, sI_at, upd_at, ne, e1, uI_sI, upd_upd, h]
        · simp (disch := omega) only [↓nm_v, ↓tg, ↓rA, ↓chk_if, ↓reduceIte, inb_ii, ii_nat, ii_add, and_self, bi_zb, if_bi, if_bi1, ii_leT, ii_leF, ii_ltT, ii_ltF, ii_eqF, ii_m1F, ↓mb_2 hM, ↓mb_3 hM, ↓mb_4 hM, ↓mb_5 hM, ↓mb_6 hM, ↓mb_7 hM, ↓mb_9 hM, ↓mb_10 hM, ↓mb_12 hM, ↓mb_22 hM, ↓mb_24 hM, ↓mb_25 hM, ↓mb_27 hM, ↓mb_28 hM, ↓mb_31 hM, ↓mb_32 hM, ↓mb_33 hM, ↓mb_35 hM, ↓mb_36 hM, ↓mb_37 hM, ↓mb_41 hM, ↓mb_42 hM, ↓mb_43 hM, ↓mb_44 hM, ↓mb_45 hM, ↓mb_46 hM, ↓mb_47 hM, ↓mb_48 hM, ↓mb_49 hM, ↓mb_55 hM, hM, ↓bn_of (m_is S hS a ha), ↓bn_of (m_is S hS b hb8), t1, t2, ↓bn_of (m_farOf hM hx' hD ha hb8), h, and_false]
  · intro q x _
    show fX5_layPaired_b36 nf k2 k28 T N R (q + 1) (sI I (m + 26) (upd t S (ii x))) m (ii S) (ii a) (ii a) = _
    rw [fX5_layPaired_b36]
    simp (disch := omega) only [↓nm_v, ↓tg, ↓rA, ↓chk_if, ↓reduceIte, inb_ii, ii_nat, ii_add, and_self, bi_zb, if_bi, if_bi1, ii_leT, ii_leF, ii_ltT, ii_ltF, ii_eqF, ii_m1F, ↓mb_2 hM, ↓mb_3 hM, ↓mb_4 hM, ↓mb_5 hM, ↓mb_6 hM, ↓mb_7 hM, ↓mb_9 hM, ↓mb_10 hM, ↓mb_12 hM, ↓mb_22 hM, ↓mb_24 hM, ↓mb_25 hM, ↓mb_27 hM, ↓mb_28 hM, ↓mb_31 hM, ↓mb_32 hM, ↓mb_33 hM, ↓mb_35 hM, ↓mb_36 hM, ↓mb_37 hM, ↓mb_41 hM, ↓mb_42 hM, ↓mb_43 hM, ↓mb_44 hM, ↓mb_45 hM, ↓mb_46 hM, ↓mb_47 hM, ↓mb_48 hM, ↓mb_49 hM, ↓mb_55 hM, hM]
theorem m_pair2 (hM : MSh m T N R) (hx : arN 64 (I (m + 22)) D) (hD : ∀ j, j < 64 → D j ≤ 100000000) (hnf : 70 < nf) (k2 : xI → Nat → Int32 → Option xI) {S : Nat} (hS : S < 256) {t : Nat → Int32} {U : Nat → Nat} (ht : arN S t U) (hU : ∀ x, U x ≤ 100000000) (x : Nat) (hx1 : x ≤ 100000000) :
    fX5_layPaired_b28 nf k2 T N R nf (sI I (m + 26) (upd t S (ii x))) m (ii S) (ii 0) = k2 (sI I (m + 26) (upd t S (ii (rngF (fun a x => rngF (fun b x => dpB 100000000 D U S a b x) a 0 x) 8 0 x)))) m (ii (S + 1)) := by
  refine loop_up (fun q x a => fX5_layPaired_b28 nf k2 T N R q (sI I (m + 26) (upd t S (ii x))) m (ii S) (ii a)) (fun a x => rngF (fun b x => dpB 100000000 D U S a b x) a 0 x) (fun _ x => x ≤ 100000000) 8 (fun x => k2 (sI I (m + 26) (upd t S (ii x))) m (ii (S + 1))) ?_ ?_ 8 0 x nf (by omega) (by omega) hx1
  · intro q x a ha hx1
    refine ⟨?_, Nat.le_trans (mn_le (dpB_le 100000000 D U S a) _ _ _) hx1⟩
    show fX5_layPaired_b28 nf k2 T N R (q + 1) (sI I (m + 26) (upd t S (ii x))) m (ii S) (ii a) = _
    rw [fX5_layPaired_b28]
    simp (disch := omega) only [↓nm_v, ↓tg, ↓rA, ↓chk_if, ↓reduceIte, inb_ii, ii_nat, ii_add, and_self, bi_zb, if_bi, if_bi1, ii_leT, ii_leF, ii_ltT, ii_ltF, ii_eqF, ii_m1F, ↓mb_2 hM, ↓mb_3 hM, ↓mb_4 hM, ↓mb_5 hM, ↓mb_6 hM, ↓mb_7 hM, ↓mb_9 hM, ↓mb_10 hM, ↓mb_12 hM, ↓mb_22 hM, ↓mb_24 hM, ↓mb_25 hM, ↓mb_27 hM, ↓mb_28 hM, ↓mb_31 hM, ↓mb_32 hM, ↓mb_33 hM, ↓mb_35 hM, ↓mb_36 hM, ↓mb_37 hM, ↓mb_41 hM, ↓mb_42 hM, ↓mb_43 hM, ↓mb_44 hM, ↓mb_45 hM, ↓mb_46 hM, ↓mb_47 hM, ↓mb_48 hM, ↓mb_49 hM, ↓mb_55 hM, hM]
    exact m_pair3 hM hx hD hnf k2 (fX5_layPaired_b28 nf k2 T N R q) hS ha ht hU x hx1
  · intro q x _
    show fX5_layPaired_b28 nf k2 T N R (q + 1) (sI I (m + 26) (upd t S (ii x))) m (ii S) (ii 8) = _
    rw [fX5_layPaired_b28]
    simp (disch := omega) only [↓nm_v, ↓tg, ↓rA, ↓chk_if, ↓reduceIte, inb_ii, ii_nat, ii_add, and_self, bi_zb, if_bi, if_bi1, ii_leT, ii_leF, ii_ltT, ii_ltF, ii_eqF, ii_m1F, ↓mb_2 hM, ↓mb_3 hM, ↓mb_4 hM, ↓mb_5 hM, ↓mb_6 hM, ↓mb_7 hM, ↓mb_9 hM, ↓mb_10 hM, ↓mb_12 hM, ↓mb_22 hM, ↓mb_24 hM, ↓mb_25 hM, ↓mb_27 hM, ↓mb_28 hM, ↓mb_31 hM, ↓mb_32 hM, ↓mb_33 hM, ↓mb_35 hM, ↓mb_36 hM, ↓mb_37 hM, ↓mb_41 hM, ↓mb_42 hM, ↓mb_43 hM, ↓mb_44 hM, ↓mb_45 hM, ↓mb_46 hM, ↓mb_47 hM, ↓mb_48 hM, ↓mb_49 hM, ↓mb_55 hM, hM]
theorem m_layPaired (hM : MSh m T N R) (hx : arN 64 (I (m + 22)) D) (hD : ∀ j, j < 64 → D j ≤ 100000000) (hnf : 300 < nf) :
    ∃ t, fX5_layPaired nf T N I R m = some (sI I (m + 26) t) ∧ arN 256 t (tbl 100000000 D 256) := by
  have := loop_rel (fun q t S => fX5_layPaired_b2 nf T N R q (sI I (m + 26) t) m (ii S)) (fun S t => arN S t (tbl 100000000 D S)) 256 (fun t => some (sI I (m + 26) t)) ?_ ?_ 256 0 (I (m + 26)) nf (by omega) (by omega) (fun j hj => by omega)
  · rw [sI_id] at this
    exact this
  · intro q t S hS ht
    have e := fun (x : Nat) (hx1 : x ≤ 100000000) => m_pair2 (D := D) (nf := nf) hM hx hD (by omega) (fX5_layPaired_b2 nf T N R q) hS ht (tbl_le 100000000 D S) x hx1
    refine ⟨upd t S (ii (dpS 100000000 D (tbl 100000000 D S) S)), ?_, arN_push ht _⟩
    show fX5_layPaired_b2 nf T N R (q + 1) (sI I (m + 26) t) m (ii S) = _
    rw [fX5_layPaired_b2]
    unfold dpS
    by_cases h0 : S = 0
    · simp (disch := omega) only [↓nm_v, ↓tg, ↓rA, ↓chk_if, ↓reduceIte, inb_ii, ii_nat, ii_add, and_self, bi_zb, if_bi, if_bi1, ii_leT, ii_leF, ii_ltT, ii_ltF, ii_eqF, ii_m1F, ↓mb_2 hM, ↓mb_3 hM, ↓mb_4 hM, ↓mb_5 hM, ↓mb_6 hM, ↓mb_7 hM, ↓mb_9 hM, ↓mb_10 hM, ↓mb_12 hM, ↓mb_22 hM, ↓mb_24 hM, ↓mb_25 hM, ↓mb_27 hM, ↓mb_28 hM, ↓mb_31 hM, ↓mb_32 hM, ↓mb_33 hM, ↓mb_35 hM, ↓mb_36 hM, ↓mb_37 hM, ↓mb_41 hM, ↓mb_42 hM, ↓mb_43 hM, ↓mb_44 hM, ↓mb_45 hM, ↓mb_46 hM, ↓mb_47 hM, ↓mb_48 hM, ↓mb_49 hM, ↓mb_55 hM, hM, h0, uI_sI]
      have := e 0 (by omega)
      rw [h0] at this
      exact this
    · simp (disch := omega) only [↓nm_v, ↓tg, ↓rA, ↓chk_if, ↓reduceIte, inb_ii, ii_nat, ii_add, and_self, bi_zb, if_bi, if_bi1, ii_leT, ii_leF, ii_ltT, ii_ltF, ii_eqF, ii_m1F, ↓mb_2 hM, ↓mb_3 hM, ↓mb_4 hM, ↓mb_5 hM, ↓mb_6 hM, ↓mb_7 hM, ↓mb_9 hM, ↓mb_10 hM, ↓mb_12 hM, ↓mb_22 hM, ↓mb_24 hM, ↓mb_25 hM, ↓mb_27 hM, ↓mb_28 hM, ↓mb_31 hM, ↓mb_32 hM, ↓mb_33 hM, ↓mb_35 hM, ↓mb_36 hM, ↓mb_37 hM, ↓mb_41 hM, ↓mb_42 hM, ↓mb_43 hM, ↓mb_44 hM, ↓mb_45 hM, ↓mb_46 hM, ↓mb_47 hM, ↓mb_48 hM, ↓mb_49 hM, ↓mb_55 hM, hM, h0, uI_sI]
      exact e 100000000 (by omega)
  · intro q t _
    show fX5_layPaired_b2 nf T N R (q + 1) (sI I (m + 26) t) m (ii 256) = _
    rw [fX5_layPaired_b2]
    simp (disch := omega) only [↓nm_v, ↓tg, ↓rA, ↓chk_if, ↓reduceIte, inb_ii, ii_nat, ii_add, and_self, bi_zb, if_bi, if_bi1, ii_leT, ii_leF, ii_ltT, ii_ltF, ii_eqF, ii_m1F, ↓mb_2 hM, ↓mb_3 hM, ↓mb_4 hM, ↓mb_5 hM, ↓mb_6 hM, ↓mb_7 hM, ↓mb_9 hM, ↓mb_10 hM, ↓mb_12 hM, ↓mb_22 hM, ↓mb_24 hM, ↓mb_25 hM, ↓mb_27 hM, ↓mb_28 hM, ↓mb_31 hM, ↓mb_32 hM, ↓mb_33 hM, ↓mb_35 hM, ↓mb_36 hM, ↓mb_37 hM, ↓mb_41 hM, ↓mb_42 hM, ↓mb_43 hM, ↓mb_44 hM, ↓mb_45 hM, ↓mb_46 hM, ↓mb_47 hM, ↓mb_48 hM, ↓mb_49 hM, ↓mb_55 hM, hM]
/-- what round answers -/
def conn (D A : Nat → Nat) (l : Nat) : Bool := decide (D (8 * A 0 + A l) < 1000000)
def roundA (A B W : Nat → Nat) (n : Nat) : Int32 := if allF (conn (fwA 1000000 A B W n) A) n 0 = true then ii (smN W n + pu 1000000 (fwA 1000000 A B W n) 6 (oddN A B n)) else -1
theorem allF_f {P : Nat → Bool} : ∀ (d l : Nat), allF P d l = true → ∀ c, l ≤ c → c < l + d → P c = true := by
  intro d
  induction d with
  | zero => intro l _ c h1 h2; omega
  | succ d ih =>
    intro l h c h1 h2
    have h' : (P l && allF P d (l + 1)) = true := h
    rw [Bool.and_eq_true] at h'
    by_cases q : c = l
    · rw [q]; exact h'.1
    · exact ih (l + 1) h'.2 c (by omega) (by omega)
theorem odd_step (A B : Nat → Nat) (n : Nat) {k o : Nat} (hk : k < 8) : (if deg A B n (ii k) % 2 = 1 then ii o ||| (ii 1 <<< (ii k &&& ii 31)) else ii o) = ii (oddS A B n k o) := by
  unfold oddS
  split
  · rw [ii_bit k hk, ii_or]
  · rfl
theorem c_round (hC : CSh c s T N R) (hS : StSh s T N R) (hs : s = c + 2) (hG : GrC I s n A B W) (hP : GrP n A B W) (hnf : 70 < nf) :
    ∃ v, fX0_round nf T N I R c = some (roundA A B W n, sI I (c + 34) v) := by
  obtain ⟨v, e, hv⟩ := c_laysFar hC hS hs hG hP hnf
  refine ⟨v, ?_⟩
  unfold fX0_round
  simp (disch := omega) only [↓nm_v, ↓tg, ↓rA, ↓chk_if, ↓reduceIte, inb_ii, ii_nat, ii_add, and_self, bi_zb, if_bi, if_bi1, ii_leT, ii_leF, ii_ltT, ii_ltF, ii_eqF, ii_m1F, ↓cb_2 hC, ↓cb_1 hC, ↓cb_3 hC, ↓cb_4 hC, ↓cb_5 hC, ↓cb_6 hC, ↓cb_7 hC, ↓cb_10 hC, ↓cb_17 hC, ↓cb_18 hC, ↓cb_19 hC, ↓cb_20 hC, ↓cb_21 hC, ↓cb_22 hC, ↓cb_23 hC, ↓cb_8 hC, ↓cb_9 hC, ↓cb_24 hC, ↓cb_16 hC, ↓cb29_0 hC, ↓cb29_1 hC, ↓sb_0 hS, ↓sb1_0 hS, ↓sb1_1 hS, ↓sb1_2 hS, ↓sb_1 hS, ↓sb_2 hS, ↓sb_3 hS, ↓sb_4 hS, ↓sb_5 hS, ↓sb_6 hS, ↓sb_7 hS, hC, hS, ↓bn_of e]
  have hG' := GrC_s hG (a := c + 34) (by omega) v
  have hx : arN 64 (sI I (c + 34) v (c + 34)) (fwA 1000000 A B W n) := by rw [sI_at]; exact hv
  have hD := fw_le64 (fwK 1000000 hP).1
  have hn := hP.1
  unfold roundA
  generalize sI I (c + 34) v = J at hG' hx ⊢
  generalize fwA 1000000 A B W n = D at hx hD ⊢
  have tail : ∀ x : Int32, fX0_round_b71 nf T N R nf J c x (ii 0) (ii 0) = some (x + ii (pu 1000000 D 6 (oddN A B n)), J) := by
    intro x
    refine loop0 (fun q o k => fX0_round_b71 nf T N R q J c x (ii o) (ii k)) (oddS A B n) 8 (fun o => (fX0_pairsUp nf 6 T N J R c (ii o)).bind fun r2 => some (x + r2, J)) ?_ ?_ (by omega) 0 |>.trans ?_
    · intro q o k hk
      have hd := deg_le A B n (ii k)
      show fX0_round_b71 nf T N R (q + 1) J c x (ii o) (ii k) = fX0_round_b71 nf T N R q J c x (ii (oddS A B n k o)) (ii (k + 1))
      rw [fX0_round_b71, ← odd_step A B n hk]
      by_cases h : deg A B n (ii k) % 2 = 1
      · simp (disch := omega) only [↓nm_v, ↓tg, ↓rA, ↓chk_if, ↓reduceIte, inb_ii, ii_nat, ii_add, and_self, bi_zb, if_bi, if_bi1, ii_leT, ii_leF, ii_ltT, ii_ltF, ii_eqF, ii_m1F, ↓cb_2 hC, ↓cb_1 hC, ↓cb_3 hC, ↓cb_4 hC, ↓cb_5 hC, ↓cb_6 hC, ↓cb_7 hC, ↓cb_10 hC, ↓cb_17 hC, ↓cb_18 hC, ↓cb_19 hC, ↓cb_20 hC, ↓cb_21 hC, ↓cb_22 hC, ↓cb_23 hC, ↓cb_8 hC, ↓cb_9 hC, ↓cb_24 hC, ↓cb_16 hC, ↓cb29_0 hC, ↓cb29_1 hC, ↓sb_0 hS, ↓sb1_0 hS, ↓sb1_1 hS, ↓sb1_2 hS, ↓sb_1 hS, ↓sb_2 hS, ↓sb_3 hS, ↓sb_4 hS, ↓sb_5 hS, ↓sb_6 hS, ↓sb_7 hS, hC, hS, ↓bn_of (c_lanesAt hC hS hG' hn hnf (ii k)), ↓ii_rem, h]
      · simp (disch := omega) only [↓nm_v, ↓tg, ↓rA, ↓chk_if, ↓reduceIte, inb_ii, ii_nat, ii_add, and_self, bi_zb, if_bi, if_bi1, ii_leT, ii_leF, ii_ltT, ii_ltF, ii_eqF, ii_m1F, ↓cb_2 hC, ↓cb_1 hC, ↓cb_3 hC, ↓cb_4 hC, ↓cb_5 hC, ↓cb_6 hC, ↓cb_7 hC, ↓cb_10 hC, ↓cb_17 hC, ↓cb_18 hC, ↓cb_19 hC, ↓cb_20 hC, ↓cb_21 hC, ↓cb_22 hC, ↓cb_23 hC, ↓cb_8 hC, ↓cb_9 hC, ↓cb_24 hC, ↓cb_16 hC, ↓cb29_0 hC, ↓cb29_1 hC, ↓sb_0 hS, ↓sb1_0 hS, ↓sb1_1 hS, ↓sb1_2 hS, ↓sb_1 hS, ↓sb_2 hS, ↓sb_3 hS, ↓sb_4 hS, ↓sb_5 hS, ↓sb_6 hS, ↓sb_7 hS, hC, hS, ↓bn_of (c_lanesAt hC hS hG' hn hnf (ii k)), ↓ii_rem, h, or_0]
    · intro q o
      show fX0_round_b71 nf T N R (q + 1) J c x (ii o) (ii 8) = _
      rw [fX0_round_b71]
      simp (disch := omega) only [↓nm_v, ↓tg, ↓rA, ↓chk_if, ↓reduceIte, inb_ii, ii_nat, ii_add, and_self, bi_zb, if_bi, if_bi1, ii_leT, ii_leF, ii_ltT, ii_ltF, ii_eqF, ii_m1F, ↓cb_2 hC, ↓cb_1 hC, ↓cb_3 hC, ↓cb_4 hC, ↓cb_5 hC, ↓cb_6 hC, ↓cb_7 hC, ↓cb_10 hC, ↓cb_17 hC, ↓cb_18 hC, ↓cb_19 hC, ↓cb_20 hC, ↓cb_21 hC, ↓cb_22 hC, ↓cb_23 hC, ↓cb_8 hC, ↓cb_9 hC, ↓cb_24 hC, ↓cb_16 hC, ↓cb29_0 hC, ↓cb29_1 hC, ↓sb_0 hS, ↓sb1_0 hS, ↓sb1_1 hS, ↓sb1_2 hS, ↓sb_1 hS, ↓sb_2 hS, ↓sb_3 hS, ↓sb_4 hS, ↓sb_5 hS, ↓sb_6 hS, ↓sb_7 hS, hC, hS]
    · show (fX0_pairsUp nf 6 T N J R c (ii (oddN A B n))).bind _ = _
      rw [c_pairsUp hC hS hx hD hnf 5 _ (odd_ok A B n).1 (by have := cd_8 _ (odd_ok A B n).1; omega)]
      rfl
  have main : ∀ d l q, l + d = n → d < q → fX0_round_b10 nf T N R q J c (ii (smN W l)) (ii 0) (ii l) = some (if allF (conn D A) d l = true then ii (smN W n + pu 1000000 D 6 (oddN A B n)) else -1, J) := by
    intro d
    induction d with
    | zero =>
      intro l q hl hq
      obtain ⟨q, rfl⟩ : ∃ q', q = q' + 1 := ⟨q - 1, by omega⟩
      have : l = n := by omega
      subst this
      rw [fX0_round_b10]
      simp (disch := omega) only [↓nm_v, ↓tg, ↓rA, ↓chk_if, ↓reduceIte, inb_ii, ii_nat, ii_add, and_self, bi_zb, if_bi, if_bi1, ii_leT, ii_leF, ii_ltT, ii_ltF, ii_eqF, ii_m1F, ↓cb_2 hC, ↓cb_1 hC, ↓cb_3 hC, ↓cb_4 hC, ↓cb_5 hC, ↓cb_6 hC, ↓cb_7 hC, ↓cb_10 hC, ↓cb_17 hC, ↓cb_18 hC, ↓cb_19 hC, ↓cb_20 hC, ↓cb_21 hC, ↓cb_22 hC, ↓cb_23 hC, ↓cb_8 hC, ↓cb_9 hC, ↓cb_24 hC, ↓cb_16 hC, ↓cb29_0 hC, ↓cb29_1 hC, ↓sb_0 hS, ↓sb1_0 hS, ↓sb1_1 hS, ↓sb1_2 hS, ↓sb_1 hS, ↓sb_2 hS, ↓sb_3 hS, ↓sb_4 hS, ↓sb_5 hS, ↓sb_6 hS, ↓sb_7 hS, hC, hS, hG']
      rw [tail, ii_add]
      rfl
    | succ d ih =>
      intro l q hl hq
      obtain ⟨q, rfl⟩ : ∃ q', q = q' + 1 := ⟨q - 1, by omega⟩
      have a0 := hP.2.1 0 (by omega)
      have a1 := hP.2.1 l (by omega)
      have l1 := hD (8 * A 0 + A l) (by omega)
      rw [fX0_round_b10]
      show _ = some (if (conn D A l && allF (conn D A) d (l + 1)) = true then _ else _, J)
      unfold conn
      by_cases h : D (8 * A 0 + A l) < 1000000
      · simp (disch := omega) only [↓nm_v, ↓tg, ↓rA, ↓chk_if, ↓reduceIte, inb_ii, ii_nat, ii_add, and_self, bi_zb, if_bi, if_bi1, ii_leT, ii_leF, ii_ltT, ii_ltF, ii_eqF, ii_m1F, ↓cb_2 hC, ↓cb_1 hC, ↓cb_3 hC, ↓cb_4 hC, ↓cb_5 hC, ↓cb_6 hC, ↓cb_7 hC, ↓cb_10 hC, ↓cb_17 hC, ↓cb_18 hC, ↓cb_19 hC, ↓cb_20 hC, ↓cb_21 hC, ↓cb_22 hC, ↓cb_23 hC, ↓cb_8 hC, ↓cb_9 hC, ↓cb_24 hC, ↓cb_16 hC, ↓cb29_0 hC, ↓cb29_1 hC, ↓sb_0 hS, ↓sb1_0 hS, ↓sb1_1 hS, ↓sb1_2 hS, ↓sb_1 hS, ↓sb_2 hS, ↓sb_3 hS, ↓sb_4 hS, ↓sb_5 hS, ↓sb_6 hS, ↓sb_7 hS, hC, hS, hG', ↓bn_of (c_farOf hC hS hx a0 a1), h, decide_true, Bool.true_and]
        rw [← smN_succ]
        exact ih (l + 1) q (by omega) (by omega)
      · simp (disch := omega) only [↓nm_v, ↓tg, ↓rA, ↓chk_if, ↓reduceIte, inb_ii, ii_nat, ii_add, and_self, bi_zb, if_bi, if_bi1, ii_leT, ii_leF, ii_ltT, ii_ltF, ii_eqF, ii_m1F, ↓cb_2 hC, ↓cb_1 hC, ↓cb_3 hC, ↓cb_4 hC, ↓cb_5 hC, ↓cb_6 hC, ↓cb_7 hC, ↓cb_10 hC, ↓cb_17 hC, ↓cb_18 hC, ↓cb_19 hC, ↓cb_20 hC, ↓cb_21 hC, ↓cb_22 hC, ↓cb_23 hC, ↓cb_8 hC, ↓cb_9 hC, ↓cb_24 hC, ↓cb_16 hC, ↓cb29_0 hC, ↓cb29_1 hC, ↓sb_0 hS, ↓sb1_0 hS, ↓sb1_1 hS, ↓sb1_2 hS, ↓sb_1 hS, ↓sb_2 hS, ↓sb_3 hS, ↓sb_4 hS, ↓sb_5 hS, ↓sb_6 hS, ↓sb_7 hS, hC, hS, hG', ↓bn_of (c_farOf hC hS hx a0 a1), h, decide_false, Bool.false_and, Bool.false_eq_true]
  exact main n 0 nf (by omega) (by omega)
theorem odd_near {A B W : Nat → Nat} {n : Nat} (hP : GrP n A B W) (hc : ∀ l, l < n → fwA 1000000 A B W n (8 * A 0 + A l) < 1000000) : (∀ a b, a < 8 → b < 8 → (oddN A B n).testBit a = true → (oddN A B n).testBit b = true → fwA 1000000 A B W n (8 * a + b) = fwA 100000000 A B W n (8 * a + b)) ∧ nearS (fwA 100000000 A B W n) (oddN A B n) := by
  have h2 := fw_two (F := 1000000) (G := 100000000) (by omega) (by omega) hP.2.1 hP.2.2.1 hP.2.2.2.1 hP.2.2.2.2
  obtain ⟨h1, h3, h4, h5, h6, _⟩ := fwK 1000000 hP
  have hend : ∀ a, a < 8 → (oddN A B n).testBit a = true → ∃ l, l < n ∧ (A l = a ∨ B l = a) := by
    intro a ha hm
    rw [(odd_ok A B n).2 a ha, decide_eq_true_eq] at hm
    have key : ∀ d, 1 ≤ deg A B d (ii a) → ∃ l, l < d ∧ atE A B l (ii a) = true := by
      intro d
      induction d with
      | zero => intro h; exact absurd h (by show ¬ 1 ≤ 0; omega)
      | succ d ih =>
        intro h
        have e : deg A B (d + 1) (ii a) = degS A B (ii a) d (deg A B d (ii a)) := rngF_s _ _ _
        rw [e] at h
        unfold degS at h
        cases q : atE A B d (ii a) with
        | true => exact ⟨d, by omega, q⟩
        | false =>
          rw [q] at h
          obtain ⟨l, h7, h8⟩ := ih h
          exact ⟨l, by omega, h8⟩
    obtain ⟨l, hl, h7⟩ := key n (by omega)
    refine ⟨l, hl, ?_⟩
    have a1 := hP.2.1 l hl
    have a2 := hP.2.2.1 l hl
    unfold atE at h7
    rw [ii_deq (by omega) (by omega), ii_deq (by omega) (by omega), Bool.or_eq_true, decide_eq_true_eq, decide_eq_true_eq] at h7
    exact h7
  have hfin : ∀ a, a < 8 → (oddN A B n).testBit a = true → fwA 1000000 A B W n (8 * A 0 + a) ≤ 2304 := by
    intro a ha hm
    obtain ⟨l, hl, h7⟩ := hend a ha hm
    have a0 := hP.2.1 0 (by omega)
    have a1 := hP.2.1 l hl
    have a2 := hP.2.2.1 l hl
    have a3 := hP.2.2.2.1 l hl
    have a4 := hP.2.2.2.2 l hl
    have g1 := hc l hl
    have g2 := h2 (A 0) (A l) a0 a1
    rcases h7 with rfl | rfl
    · omega
    · have g3 := h5 (A 0) (B l) (A l) a0 a2 a1
      have g4 := h6 (A l) (B l) a1 a2 a3
      have g5 := ll_lane (F := 1000000) (A := A) (B := B) (W := W) hl
      have g6 := h2 (A 0) (B l) a0 a2
      omega
  have hab : ∀ a b, a < 8 → b < 8 → (oddN A B n).testBit a = true → (oddN A B n).testBit b = true → fwA 1000000 A B W n (8 * a + b) < 1000000 := by
    intro a b ha hb hma hmb
    obtain ⟨l, hl, _⟩ := hend a ha hma
    have a0 := hP.2.1 0 (by omega)
    have g1 := hfin a ha hma
    have g2 := hfin b hb hmb
    have g3 := h5 a b (A 0) ha hb a0
    have g4 := h4 a (A 0) ha a0
    omega
  refine ⟨fun a b ha hb hma hmb => ?_, fun a b ha hb hma hmb => ?_⟩
  · have g1 := hab a b ha hb hma hmb
    have g2 := h2 a b ha hb
    omega
  · have g1 := hab a b ha hb hma hmb
    have g2 := h2 a b ha hb
    omega
theorem m_round (hM : MSh m T N R) (hG : GrM I m n A B W) (hP : GrP n A B W) (hnf : 300 < nf) :
    ∃ v w, fX5_round nf T N I R m = some (roundA A B W n, sI (sI (uI I m 0 (ii 0)) (m + 22) v) (m + 26) w) := by
  have hG2 := GrM_t hG 0 (ii 0)
  obtain ⟨v, e, hv⟩ := m_layFar hM hG2 hP (show 70 < nf by omega)
  refine ⟨v, ?_⟩
  unfold fX5_round
  simp (disch := omega) only [↓nm_v, ↓tg, ↓rA, ↓chk_if, ↓reduceIte, inb_ii, ii_nat, ii_add, and_self, bi_zb, if_bi, if_bi1, ii_leT, ii_leF, ii_ltT, ii_ltF, ii_eqF, ii_m1F, ↓mb_2 hM, ↓mb_3 hM, ↓mb_4 hM, ↓mb_5 hM, ↓mb_6 hM, ↓mb_7 hM, ↓mb_9 hM, ↓mb_10 hM, ↓mb_12 hM, ↓mb_22 hM, ↓mb_24 hM, ↓mb_25 hM, ↓mb_27 hM, ↓mb_28 hM, ↓mb_31 hM, ↓mb_32 hM, ↓mb_33 hM, ↓mb_35 hM, ↓mb_36 hM, ↓mb_37 hM, ↓mb_41 hM, ↓mb_42 hM, ↓mb_43 hM, ↓mb_44 hM, ↓mb_45 hM, ↓mb_46 hM, ↓mb_47 hM, ↓mb_48 hM, ↓mb_49 hM, ↓mb_55 hM, hM, ↓bn_of e]
  have hG' := GrM_s hG2 (a := m + 22) (by omega) v
  have hx : arN 64 (sI (uI I m 0 (ii 0)) (m + 22) v (m + 22)) (fwA 100000000 A B W n) := by rw [sI_at]; exact hv
  have hD := fw_le64 (fwK 100000000 hP).1
  have hn := hP.1
  have h2 := fw_two (F := 1000000) (G := 100000000) (by omega) (by omega) hP.2.1 hP.2.2.1 hP.2.2.2.1 hP.2.2.2.2
  have hsym := (fwK 100000000 hP).2.2.1
  unfold roundA
  generalize sI (uI I m 0 (ii 0)) (m + 22) v = J at hG' hx ⊢
  obtain ⟨w, e2, hw⟩ := m_layPaired (nf := nf) hM hx hD (by omega)
  have hval : (∀ l, l < n → fwA 1000000 A B W n (8 * A 0 + A l) < 1000000) → w (oddN A B n) = ii (pu 1000000 (fwA 1000000 A B W n) 6 (oddN A B n)) := by
    intro hc
    obtain ⟨g1, g2⟩ := odd_near hP hc
    have hO := (odd_ok A B n).1
    have hev := odd_even hP
    have h8 := cd_8 _ hO
    rw [hw _ hO, dp_pu (F := 1000000) (by omega) (by omega) hsym (tbl_ok 100000000 (fwA 100000000 A B W n)) (cdN (oddN A B n) / 2) 6 _ hO (by omega) (by omega) (by omega) g2, pu_congr 6 _ hO g1]
  have hO := (odd_ok A B n).1
  have main : ∀ d l q, l + d = n → d < q → (∀ j, j < l → fwA 1000000 A B W n (8 * A 0 + A j) < 1000000) → ∃ w', fX5_round_b50 nf T N R q J m (ii (oddN A B n)) (ii (smN W l)) (ii l) = some (if allF (conn (fwA 1000000 A B W n) A) d l = true then ii (smN W n + pu 1000000 (fwA 1000000 A B W n) 6 (oddN A B n)) else -1, sI J (m + 26) w') := by
    intro d
    induction d with
    | zero =>
      intro l q hl hq hc
      obtain ⟨q, rfl⟩ : ∃ q', q = q' + 1 := ⟨q - 1, by omega⟩
      have : l = n := by omega
      subst this
      refine ⟨w, ?_⟩
      have hval := hval hc
      rw [fX5_round_b50]
      simp (disch := omega) only [↓nm_v, ↓tg, ↓rA, ↓chk_if, ↓reduceIte, inb_ii, ii_nat, ii_add, and_self, bi_zb, if_bi, if_bi1, ii_leT, ii_leF, ii_ltT, ii_ltF, ii_eqF, ii_m1F, ↓mb_2 hM, ↓mb_3 hM, ↓mb_4 hM, ↓mb_5 hM, ↓mb_6 hM, ↓mb_7 hM, ↓mb_9 hM, ↓mb_10 hM, ↓mb_12 hM, ↓mb_22 hM, ↓mb_24 hM, ↓mb_25 hM, ↓mb_27 hM, ↓mb_28 hM, ↓mb_31 hM, ↓mb_32 hM, ↓mb_33 hM, ↓mb_35 hM, ↓mb_36 hM, ↓mb_37 hM, ↓mb_41 hM, ↓mb_42 hM, ↓mb_43 hM, ↓mb_44 hM, ↓mb_45 hM, ↓mb_46 hM, ↓mb_47 hM, ↓mb_48 hM, ↓mb_49 hM, ↓mb_55 hM, hM, hG', ↓bn_of e2, sI_at, hval]
      rfl
    | succ d ih =>
      intro l q hl hq hc
      obtain ⟨q, rfl⟩ : ∃ q', q = q' + 1 := ⟨q - 1, by omega⟩
      have a0 := hP.2.1 0 (by omega)
      have a1 := hP.2.1 l (by omega)
      have l1 := hD (8 * A 0 + A l) (by omega)
      have l2 := h2 (A 0) (A l) a0 a1
      have r0 := hG'.2.1 0 (by omega)
      rw [show 26 + 0 = 26 by rfl] at r0
      by_cases h : fwA 1000000 A B W n (8 * A 0 + A l) < 1000000
      · obtain ⟨w', ih⟩ := ih (l + 1) q (by omega) (by omega) (fun j hj => by
          by_cases q : j = l
          · rw [q]; exact h
          · exact hc j (by omega))
        refine ⟨w', ?_⟩
        rw [fX5_round_b50]
        show _ = some (if (conn (fwA 1000000 A B W n) A l && allF (conn (fwA 1000000 A B W n) A) d (l + 1)) = true then _ else _, _)
        unfold conn
        simp (disch := omega) only [↓nm_v, ↓tg, ↓rA, ↓chk_if, ↓reduceIte, inb_ii, ii_nat, ii_add, and_self, bi_zb, if_bi, if_bi1, ii_leT, ii_leF, ii_ltT, ii_ltF, ii_eqF, ii_m1F, ↓mb_2 hM, ↓mb_3 hM, ↓mb_4 hM, ↓mb_5 hM, ↓mb_6 hM, ↓mb_7 hM, ↓mb_9 hM, ↓mb_10 hM, ↓mb_12 hM, ↓mb_22 hM, ↓mb_24 hM, ↓mb_25 hM, ↓mb_27 hM, ↓mb_28 hM, ↓mb_31 hM, ↓mb_32 hM, ↓mb_33 hM, ↓mb_35 hM, ↓mb_36 hM, ↓mb_37 hM, ↓mb_41 hM, ↓mb_42 hM, ↓mb_43 hM, ↓mb_44 hM, ↓mb_45 hM, ↓mb_46 hM, ↓mb_47 hM, ↓mb_48 hM, ↓mb_49 hM, ↓mb_55 hM, hM, hG', r0, ↓bn_of (m_farOf hM hx hD a0 a1), h, decide_true, Bool.true_and]
        rw [← smN_succ]
        exact ih
      · refine ⟨J (m + 26), ?_⟩
        rw [sI_id, fX5_round_b50]
        have h' : fwA 100000000 A B W n (8 * A 0 + A l) = 100000000 := by omega
        show _ = some (if (conn (fwA 1000000 A B W n) A l && allF (conn (fwA 1000000 A B W n) A) d (l + 1)) = true then _ else _, _)
        unfold conn
        simp (disch := omega) only [↓nm_v, ↓tg, ↓rA, ↓chk_if, ↓reduceIte, inb_ii, ii_nat, ii_add, and_self, bi_zb, if_bi, if_bi1, ii_leT, ii_leF, ii_ltT, ii_ltF, ii_eqF, ii_m1F, ↓mb_2 hM, ↓mb_3 hM, ↓mb_4 hM, ↓mb_5 hM, ↓mb_6 hM, ↓mb_7 hM, ↓mb_9 hM, ↓mb_10 hM, ↓mb_12 hM, ↓mb_22 hM, ↓mb_24 hM, ↓mb_25 hM, ↓mb_27 hM, ↓mb_28 hM, ↓mb_31 hM, ↓mb_32 hM, ↓mb_33 hM, ↓mb_35 hM, ↓mb_36 hM, ↓mb_37 hM, ↓mb_41 hM, ↓mb_42 hM, ↓mb_43 hM, ↓mb_44 hM, ↓mb_45 hM, ↓mb_46 hM, ↓mb_47 hM, ↓mb_48 hM, ↓mb_49 hM, ↓mb_55 hM, hM, hG', r0, ↓bn_of (m_farOf hM hx hD a0 a1), h, h', decide_false, Bool.false_and, Bool.false_eq_true]
  obtain ⟨w', hm⟩ := main n 0 nf (by omega) (by omega) (fun j hj => by omega)
  refine ⟨w', ?_⟩
  refine (loop0 (fun q o k => fX5_round_b15 nf T N R q J m (ii o) (ii 0) (ii k)) (oddS A B n) 8 (fun o => fX5_round_b50 nf T N R nf J m (ii o) (ii 0) (ii 0)) ?_ ?_ (by omega) 0).trans hm
  · intro q o k hk
    have hd := deg_le A B n (ii k)
    show fX5_round_b15 nf T N R (q + 1) J m (ii o) (ii 0) (ii k) = fX5_round_b15 nf T N R q J m (ii (oddS A B n k o)) (ii 0) (ii (k + 1))
    rw [fX5_round_b15, ← odd_step A B n hk]
    by_cases h : deg A B n (ii k) % 2 = 1
    · simp (disch := omega) only [↓nm_v, ↓tg, ↓rA, ↓chk_if, ↓reduceIte, inb_ii, ii_nat, ii_add, and_self, bi_zb, if_bi, if_bi1, ii_leT, ii_leF, ii_ltT, ii_ltF, ii_eqF, ii_m1F, ↓mb_2 hM, ↓mb_3 hM, ↓mb_4 hM, ↓mb_5 hM, ↓mb_6 hM, ↓mb_7 hM, ↓mb_9 hM, ↓mb_10 hM, ↓mb_12 hM, ↓mb_22 hM, ↓mb_24 hM, ↓mb_25 hM, ↓mb_27 hM, ↓mb_28 hM, ↓mb_31 hM, ↓mb_32 hM, ↓mb_33 hM, ↓mb_35 hM, ↓mb_36 hM, ↓mb_37 hM, ↓mb_41 hM, ↓mb_42 hM, ↓mb_43 hM, ↓mb_44 hM, ↓mb_45 hM, ↓mb_46 hM, ↓mb_47 hM, ↓mb_48 hM, ↓mb_49 hM, ↓mb_55 hM, hM, ↓bn_of (m_laneEnds hM hG' hn (show 70 < nf by omega) (ii k)), ↓ii_rem, h]
    · simp (disch := omega) only [↓nm_v, ↓tg, ↓rA, ↓chk_if, ↓reduceIte, inb_ii, ii_nat, ii_add, and_self, bi_zb, if_bi, if_bi1, ii_leT, ii_leF, ii_ltT, ii_ltF, ii_eqF, ii_m1F, ↓mb_2 hM, ↓mb_3 hM, ↓mb_4 hM, ↓mb_5 hM, ↓mb_6 hM, ↓mb_7 hM, ↓mb_9 hM, ↓mb_10 hM, ↓mb_12 hM, ↓mb_22 hM, ↓mb_24 hM, ↓mb_25 hM, ↓mb_27 hM, ↓mb_28 hM, ↓mb_31 hM, ↓mb_32 hM, ↓mb_33 hM, ↓mb_35 hM, ↓mb_36 hM, ↓mb_37 hM, ↓mb_41 hM, ↓mb_42 hM, ↓mb_43 hM, ↓mb_44 hM, ↓mb_45 hM, ↓mb_46 hM, ↓mb_47 hM, ↓mb_48 hM, ↓mb_49 hM, ↓mb_55 hM, hM, ↓bn_of (m_laneEnds hM hG' hn (show 70 < nf by omega) (ii k)), ↓ii_rem, h, or_0]
  · intro q o
    show fX5_round_b15 nf T N R (q + 1) J m (ii o) (ii 0) (ii 8) = _
    rw [fX5_round_b15]
    simp (disch := omega) only [↓nm_v, ↓tg, ↓rA, ↓chk_if, ↓reduceIte, inb_ii, ii_nat, ii_add, and_self, bi_zb, if_bi, if_bi1, ii_leT, ii_leF, ii_ltT, ii_ltF, ii_eqF, ii_m1F, ↓mb_2 hM, ↓mb_3 hM, ↓mb_4 hM, ↓mb_5 hM, ↓mb_6 hM, ↓mb_7 hM, ↓mb_9 hM, ↓mb_10 hM, ↓mb_12 hM, ↓mb_22 hM, ↓mb_24 hM, ↓mb_25 hM, ↓mb_27 hM, ↓mb_28 hM, ↓mb_31 hM, ↓mb_32 hM, ↓mb_33 hM, ↓mb_35 hM, ↓mb_36 hM, ↓mb_37 hM, ↓mb_41 hM, ↓mb_42 hM, ↓mb_43 hM, ↓mb_44 hM, ↓mb_45 hM, ↓mb_46 hM, ↓mb_47 hM, ↓mb_48 hM, ↓mb_49 hM, ↓mb_55 hM, hM]
end
