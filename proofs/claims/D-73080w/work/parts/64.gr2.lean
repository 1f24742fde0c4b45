/-! PLAIN LAND, 14: far, dead, alike, named; where lanes meet -/
theorem ii_deq {a b : Nat} (ha : a < 2147483648) (hb : b < 2147483648) : decide (ii a = ii b) = decide (a = b) := by
  by_cases h : a = b
  · subst h; simp
  · rw [decide_eq_false h, decide_eq_false (fun q => h ((ii_eq ha hb).mp q))]
theorem deg_le (A B : Nat → Nat) (n : Nat) (x : Int32) : deg A B n x ≤ n := by
  induction n with
  | zero => exact Nat.le_refl _
  | succ n ih =>
    have e : deg A B (n + 1) x = degS A B x n (deg A B n x) := rngF_s _ _ _
    rw [e]
    unfold degS
    cases atE A B n x <;> simp <;> omega
theorem fwK (F : Nat) {A B W : Nat → Nat} {n : Nat} (hP : GrP n A B W) : fwOK F A B W n 8 (fwA F A B W n) := fw_ok hP.2.1 hP.2.2.1 hP.2.2.2.1
theorem loopL {α β : Type} (F : Nat → α → Nat → Option β) (f : Nat → α → α) (n : Nat) (fin : α → Option β)
    (hs : ∀ k x l, l < n → F (k + 1) x l = F k (f l x) (l + 1)) (hf : ∀ k x, F (k + 1) x n = fin x) {k : Nat} (hk : n < k) {l : Nat} (hl : l ≤ n) (x : α) : F k x l = fin (rngF f (n - l) l x) :=
  loop_up F f (fun _ _ => True) n fin (fun k x l h _ => ⟨hs k x l h, trivial⟩) (fun k x _ => hf k x) (n - l) l x k (by omega) (by omega) trivial
section
variable {T N : xT} {R : xR} {I : xI} {c s m n nf : Nat} {A B W : Nat → Nat} {Nm : Nat → Int32} {D : Nat → Nat}
theorem GrM_t (h : GrM I m n A B W) (k : Nat) (v : Int32) : GrM (uI I m k v) m n A B W := by
  simp (disch := omega) only [GrM, uI_ne]
  exact h
theorem GrM_s (h : GrM I m n A B W) {a : Nat} (ha : a ≠ m + 2) (x : Nat → Int32) : GrM (sI I a x) m n A B W := by
  simp (disch := omega) only [GrM, sI_ne]
  exact h
theorem GrC_s (h : GrC I s n A B W) {a : Nat} (ha : a < s ∨ s + 7 < a) (x : Nat → Int32) : GrC (sI I a x) s n A B W := by
  simp (disch := omega) only [GrC, sI_ne]
  exact h
theorem c_farOf (hC : CSh c s T N R) (hS : StSh s T N R) (hx : arN 64 (I (c + 34)) D) {a b : Nat} (ha : a < 8) (hb : b < 8) : fX0_farOf T N I R c (ii a) (ii b) = some (ii (D (8 * a + b))) := by
  have e := hx (8 * a + b) (by omega)
  unfold fX0_farOf
  simp (disch := omega) only [↓nm_v, ↓tg, ↓rA, ↓chk_if, ↓reduceIte, inb_ii, ii_nat, ii_add, and_self, bi_zb, if_bi, if_bi1, ii_leT, ii_leF, ii_ltT, ii_ltF, ii_eqF, ii_m1F, ↓cb_2 hC, ↓cb_1 hC, ↓cb_3 hC, ↓cb_4 hC, ↓cb_5 hC, ↓cb_6 hC, ↓cb_7 hC, ↓cb_10 hC, ↓cb_17 hC, ↓cb_18 hC, ↓cb_19 hC, ↓cb_20 hC, ↓cb_21 hC, ↓cb_22 hC, ↓cb_23 hC, ↓cb_8 hC, ↓cb_9 hC, ↓cb_24 hC, ↓cb_16 hC, ↓cb29_0 hC, ↓cb29_1 hC, ↓sb_0 hS, ↓sb1_0 hS, ↓sb1_1 hS, ↓sb1_2 hS, ↓sb_1 hS, ↓sb_2 hS, ↓sb_3 hS, ↓sb_4 hS, ↓sb_5 hS, ↓sb_6 hS, ↓sb_7 hS, hC, hS, ii_mul, e]
theorem m_farOf (hM : MSh m T N R) (hx : arN 64 (I (m + 22)) D) (hd : ∀ j, j < 64 → D j ≤ 100000000) {a b : Nat} (ha : a < 8) (hb : b < 8) : fX5_farOf T N I R m (ii a) (ii b) = some (ii (D (8 * a + b))) := by
  have e := hx (8 * a + b) (by omega)
  have l := hd (8 * a + b) (by omega)
  unfold fX5_farOf
  by_cases h : D (8 * a + b) < 100000000
  · simp (disch := omega) only [↓nm_v, ↓tg, ↓rA, ↓chk_if, ↓reduceIte, inb_ii, ii_nat, ii_add, and_self, bi_zb, if_bi, if_bi1, ii_leT, ii_leF, ii_ltT, ii_ltF, ii_eqF, ii_m1F, ↓mb_2 hM, ↓mb_3 hM, ↓mb_4 hM, ↓mb_5 hM, ↓mb_6 hM, ↓mb_7 hM, ↓mb_9 hM, ↓mb_10 hM, ↓mb_12 hM, ↓mb_22 hM, ↓mb_24 hM, ↓mb_25 hM, ↓mb_27 hM, ↓mb_28 hM, ↓mb_31 hM, ↓mb_32 hM, ↓mb_33 hM, ↓mb_35 hM, ↓mb_36 hM, ↓mb_37 hM, ↓mb_41 hM, ↓mb_42 hM, ↓mb_43 hM, ↓mb_44 hM, ↓mb_45 hM, ↓mb_46 hM, ↓mb_47 hM, ↓mb_48 hM, ↓mb_49 hM, ↓mb_55 hM, hM, ii_mul, e]
  · have h2 : D (8 * a + b) = 100000000 := by omega
    simp (disch := omega) only [↓nm_v, ↓tg, ↓rA, ↓chk_if, ↓reduceIte, inb_ii, ii_nat, ii_add, and_self, bi_zb, if_bi, if_bi1, ii_leT, ii_leF, ii_ltT, ii_ltF, ii_eqF, ii_m1F, ↓mb_2 hM, ↓mb_3 hM, ↓mb_4 hM, ↓mb_5 hM, ↓mb_6 hM, ↓mb_7 hM, ↓mb_9 hM, ↓mb_10 hM, ↓mb_12 hM, ↓mb_22 hM, ↓mb_24 hM, ↓mb_25 hM, ↓mb_27 hM, ↓mb_28 hM, ↓mb_31 hM, ↓mb_32 hM, ↓mb_33 hM, ↓mb_35 hM, ↓mb_36 hM, ↓mb_37 hM, ↓mb_41 hM, ↓mb_42 hM, ↓mb_43 hM, ↓mb_44 hM, ↓mb_45 hM, ↓mb_46 hM, ↓mb_47 hM, ↓mb_48 hM, ↓mb_49 hM, ↓mb_55 hM, hM, ii_mul, e, h2]
/-- what far answers -/
def farA (A B W : Nat → Nat) (n : Nat) (x y : Int32) : Int32 :=
  if rg x 0 7 = true ∧ rg y 0 7 = true ∧ fwA 1000000 A B W n (8 * x.toNatClampNeg + y.toNatClampNeg) < 1000000 then ii (fwA 1000000 A B W n (8 * x.toNatClampNeg + y.toNatClampNeg)) else -1
theorem rg7 {x : Int32} (h : rg x 0 7 = true) : ∃ k : Nat, x = ii k ∧ k < 8 := by
  obtain ⟨k, h1, h2, _⟩ := rg_ex (hi := 7) h
  exact ⟨k, h1, by omega⟩
theorem c_far (hC : CSh c s T N R) (hS : StSh s T N R) (hs : s = c + 2) (hG : GrC I s n A B W) (hP : GrP n A B W) (hnf : 70 < nf) (x y : Int32) :
    ∃ v, fX0_far nf T N I R c x y = some (farA A B W n x y, sI I (c + 34) v) := by
  obtain ⟨v, e, hv⟩ := c_laysFar hC hS hs hG hP hnf
  unfold fX0_far farA
  cases h1 : rg x 0 7 with
  | false =>
    refine ⟨I (c + 34), ?_⟩
    rw [sI_id]
    simp (disch := omega) only [↓nm_v, ↓tg, ↓rA, ↓chk_if, ↓reduceIte, inb_ii, ii_nat, ii_add, and_self, bi_zb, if_bi, if_bi1, ii_leT, ii_leF, ii_ltT, ii_ltF, ii_eqF, ii_m1F, ↓cb_2 hC, ↓cb_1 hC, ↓cb_3 hC, ↓cb_4 hC, ↓cb_5 hC, ↓cb_6 hC, ↓cb_7 hC, ↓cb_10 hC, ↓cb_17 hC, ↓cb_18 hC, ↓cb_19 hC, ↓cb_20 hC, ↓cb_21 hC, ↓cb_22 hC, ↓cb_23 hC, ↓cb_8 hC, ↓cb_9 hC, ↓cb_24 hC, ↓cb_16 hC, ↓cb29_0 hC, ↓cb29_1 hC, ↓sb_0 hS, ↓sb1_0 hS, ↓sb1_1 hS, ↓sb1_2 hS, ↓sb_1 hS, ↓sb_2 hS, ↓sb_3 hS, ↓sb_4 hS, ↓sb_5 hS, ↓sb_6 hS, ↓sb_7 hS, hC, hS, ↓bn_of (c_isCorner x), h1, false_and, Bool.false_eq_true]
  | true =>
    obtain ⟨a, rfl, ha⟩ := rg7 h1
    cases h2 : rg y 0 7 with
    | false =>
      refine ⟨I (c + 34), ?_⟩
      rw [sI_id]
      simp (disch := omega) only [↓nm_v, ↓tg, ↓rA, ↓chk_if, ↓reduceIte, inb_ii, ii_nat, ii_add, and_self, bi_zb, if_bi, if_bi1, ii_leT, ii_leF, ii_ltT, ii_ltF, ii_eqF, ii_m1F, ↓cb_2 hC, ↓cb_1 hC, ↓cb_3 hC, ↓cb_4 hC, ↓cb_5 hC, ↓cb_6 hC, ↓cb_7 hC, ↓cb_10 hC, ↓cb_17 hC, ↓cb_18 hC, ↓cb_19 hC, ↓cb_20 hC, ↓cb_21 hC, ↓cb_22 hC, ↓cb_23 hC, ↓cb_8 hC, ↓cb_9 hC, ↓cb_24 hC, ↓cb_16 hC, ↓cb29_0 hC, ↓cb29_1 hC, ↓sb_0 hS, ↓sb1_0 hS, ↓sb1_1 hS, ↓sb1_2 hS, ↓sb_1 hS, ↓sb_2 hS, ↓sb_3 hS, ↓sb_4 hS, ↓sb_5 hS, ↓sb_6 hS, ↓sb_7 hS, hC, hS, ↓bn_of (c_isCorner (ii a)), ↓bn_of (c_isCorner y), h1, h2, false_and, and_false, Bool.false_eq_true]
    | true =>
      obtain ⟨b, rfl, hb⟩ := rg7 h2
      refine ⟨v, ?_⟩
      have hx : arN 64 (sI I (c + 34) v (c + 34)) (fwA 1000000 A B W n) := by rw [sI_at]; exact hv
      have hd := (fwK 1000000 hP).1 a b ha hb
      by_cases h : fwA 1000000 A B W n (8 * a + b) < 1000000
      · simp (disch := omega) only [↓nm_v, ↓tg, ↓rA, ↓chk_if, ↓reduceIte, inb_ii, ii_nat, ii_add, and_self, bi_zb, if_bi, if_bi1, ii_leT, ii_leF, ii_ltT, ii_ltF, ii_eqF, ii_m1F, ↓cb_2 hC, ↓cb_1 hC, ↓cb_3 hC, ↓cb_4 hC, ↓cb_5 hC, ↓cb_6 hC, ↓cb_7 hC, ↓cb_10 hC, ↓cb_17 hC, ↓cb_18 hC, ↓cb_19 hC, ↓cb_20 hC, ↓cb_21 hC, ↓cb_22 hC, ↓cb_23 hC, ↓cb_8 hC, ↓cb_9 hC, ↓cb_24 hC, ↓cb_16 hC, ↓cb29_0 hC, ↓cb29_1 hC, ↓sb_0 hS, ↓sb1_0 hS, ↓sb1_1 hS, ↓sb1_2 hS, ↓sb_1 hS, ↓sb_2 hS, ↓sb_3 hS, ↓sb_4 hS, ↓sb_5 hS, ↓sb_6 hS, ↓sb_7 hS, hC, hS, ↓bn_of (c_isCorner (ii a)), ↓bn_of (c_isCorner (ii b)), h1, h2, ↓bn_of e, ↓bn_of (c_farOf hC hS hx ha hb), h]
      · simp (disch := omega) only [↓nm_v, ↓tg, ↓rA, ↓chk_if, ↓reduceIte, inb_ii, ii_nat, ii_add, and_self, bi_zb, if_bi, if_bi1, ii_leT, ii_leF, ii_ltT, ii_ltF, ii_eqF, ii_m1F, ↓cb_2 hC, ↓cb_1 hC, ↓cb_3 hC, ↓cb_4 hC, ↓cb_5 hC, ↓cb_6 hC, ↓cb_7 hC, ↓cb_10 hC, ↓cb_17 hC, ↓cb_18 hC, ↓cb_19 hC, ↓cb_20 hC, ↓cb_21 hC, ↓cb_22 hC, ↓cb_23 hC, ↓cb_8 hC, ↓cb_9 hC, ↓cb_24 hC, ↓cb_16 hC, ↓cb29_0 hC, ↓cb29_1 hC, ↓sb_0 hS, ↓sb1_0 hS, ↓sb1_1 hS, ↓sb1_2 hS, ↓sb_1 hS, ↓sb_2 hS, ↓sb_3 hS, ↓sb_4 hS, ↓sb_5 hS, ↓sb_6 hS, ↓sb_7 hS, hC, hS, ↓bn_of (c_isCorner (ii a)), ↓bn_of (c_isCorner (ii b)), h1, h2, ↓bn_of e, ↓bn_of (c_farOf hC hS hx ha hb), h, and_false]
theorem m_far (hM : MSh m T N R) (hG : GrM I m n A B W) (hP : GrP n A B W) (hnf : 70 < nf) (x y : Int32) :
    ∃ v, fX5_far nf T N I R m x y = some (farA A B W n x y, sI (uI I m 0 (ii 0)) (m + 22) v) := by
  obtain ⟨v, e, hv⟩ := m_layFar hM (GrM_t hG 0 (ii 0)) hP hnf
  unfold fX5_far farA
  cases h1 : rg x 0 7 with
  | false =>
    refine ⟨uI I m 0 (ii 0) (m + 22), ?_⟩
    rw [sI_id]
    simp (disch := omega) only [↓nm_v, ↓tg, ↓rA, ↓chk_if, ↓reduceIte, inb_ii, ii_nat, ii_add, and_self, bi_zb, if_bi, if_bi1, ii_leT, ii_leF, ii_ltT, ii_ltF, ii_eqF, ii_m1F, ↓mb_2 hM, ↓mb_3 hM, ↓mb_4 hM, ↓mb_5 hM, ↓mb_6 hM, ↓mb_7 hM, ↓mb_9 hM, ↓mb_10 hM, ↓mb_12 hM, ↓mb_22 hM, ↓mb_24 hM, ↓mb_25 hM, ↓mb_27 hM, ↓mb_28 hM, ↓mb_31 hM, ↓mb_32 hM, ↓mb_33 hM, ↓mb_35 hM, ↓mb_36 hM, ↓mb_37 hM, ↓mb_41 hM, ↓mb_42 hM, ↓mb_43 hM, ↓mb_44 hM, ↓mb_45 hM, ↓mb_46 hM, ↓mb_47 hM, ↓mb_48 hM, ↓mb_49 hM, ↓mb_55 hM, hM, ↓bn_of (m_isCorner x), h1, false_and, Bool.false_eq_true]
  | true =>
    obtain ⟨a, rfl, ha⟩ := rg7 h1
    cases h2 : rg y 0 7 with
    | false =>
      refine ⟨uI I m 0 (ii 0) (m + 22), ?_⟩
      rw [sI_id]
      simp (disch := omega) only [↓nm_v, ↓tg, ↓rA, ↓chk_if, ↓reduceIte, inb_ii, ii_nat, ii_add, and_self, bi_zb, if_bi, if_bi1, ii_leT, ii_leF, ii_ltT, ii_ltF, ii_eqF, ii_m1F, ↓mb_2 hM, ↓mb_3 hM, ↓mb_4 hM, ↓mb_5 hM, ↓mb_6 hM, ↓mb_7 hM, ↓mb_9 hM, ↓mb_10 hM, ↓mb_12 hM, ↓mb_22 hM, ↓mb_24 hM, ↓mb_25 hM, ↓mb_27 hM, ↓mb_28 hM, ↓mb_31 hM, ↓mb_32 hM, ↓mb_33 hM, ↓mb_35 hM, ↓mb_36 hM, ↓mb_37 hM, ↓mb_41 hM, ↓mb_42 hM, ↓mb_43 hM, ↓mb_44 hM, ↓mb_45 hM, ↓mb_46 hM, ↓mb_47 hM, ↓mb_48 hM, ↓mb_49 hM, ↓mb_55 hM, hM, ↓bn_of (m_isCorner (ii a)), ↓bn_of (m_isCorner y), h1, h2, false_and, and_false, Bool.false_eq_true]
    | true =>
      obtain ⟨b, rfl, hb⟩ := rg7 h2
      refine ⟨v, ?_⟩
      have hx : arN 64 (sI (uI I m 0 (ii 0)) (m + 22) v (m + 22)) (fwA 100000000 A B W n) := by rw [sI_at]; exact hv
      have hd := (fwK 100000000 hP).1
      have hd1 := hd a b ha hb
      have h2' := fw_two (F := 1000000) (G := 100000000) (by omega) (by omega) hP.2.1 hP.2.2.1 hP.2.2.2.1 hP.2.2.2.2 a b ha hb
      rcases h2' with ⟨q1, q2⟩ | ⟨q1, q2⟩
      · simp (disch := omega) only [↓nm_v, ↓tg, ↓rA, ↓chk_if, ↓reduceIte, inb_ii, ii_nat, ii_add, and_self, bi_zb, if_bi, if_bi1, ii_leT, ii_leF, ii_ltT, ii_ltF, ii_eqF, ii_m1F, ↓mb_2 hM, ↓mb_3 hM, ↓mb_4 hM, ↓mb_5 hM, ↓mb_6 hM, ↓mb_7 hM, ↓mb_9 hM, ↓mb_10 hM, ↓mb_12 hM, ↓mb_22 hM, ↓mb_24 hM, ↓mb_25 hM, ↓mb_27 hM, ↓mb_28 hM, ↓mb_31 hM, ↓mb_32 hM, ↓mb_33 hM, ↓mb_35 hM, ↓mb_36 hM, ↓mb_37 hM, ↓mb_41 hM, ↓mb_42 hM, ↓mb_43 hM, ↓mb_44 hM, ↓mb_45 hM, ↓mb_46 hM, ↓mb_47 hM, ↓mb_48 hM, ↓mb_49 hM, ↓mb_55 hM, hM, ↓bn_of (m_isCorner (ii a)), ↓bn_of (m_isCorner (ii b)), h1, h2, ↓bn_of e, ↓bn_of (m_farOf hM hx (fw_le64 hd) ha hb), q1, q2, Nat.lt_irrefl, and_false]
      · have h : fwA 1000000 A B W n (8 * a + b) < 1000000 := by omega
        have h' : fwA 100000000 A B W n (8 * a + b) ≠ 100000000 := by omega
        simp (disch := omega) only [↓nm_v, ↓tg, ↓rA, ↓chk_if, ↓reduceIte, inb_ii, ii_nat, ii_add, and_self, bi_zb, if_bi, if_bi1, ii_leT, ii_leF, ii_ltT, ii_ltF, ii_eqF, ii_m1F, ↓mb_2 hM, ↓mb_3 hM, ↓mb_4 hM, ↓mb_5 hM, ↓mb_6 hM, ↓mb_7 hM, ↓mb_9 hM, ↓mb_10 hM, ↓mb_12 hM, ↓mb_22 hM, ↓mb_24 hM, ↓mb_25 hM, ↓mb_27 hM, ↓mb_28 hM, ↓mb_31 hM, ↓mb_32 hM, ↓mb_33 hM, ↓mb_35 hM, ↓mb_36 hM, ↓mb_37 hM, ↓mb_41 hM, ↓mb_42 hM, ↓mb_43 hM, ↓mb_44 hM, ↓mb_45 hM, ↓mb_46 hM, ↓mb_47 hM, ↓mb_48 hM, ↓mb_49 hM, ↓mb_55 hM, hM, ↓bn_of (m_isCorner (ii a)), ↓bn_of (m_isCorner (ii b)), h1, h2, ↓bn_of e, ↓bn_of (m_farOf hM hx (fw_le64 hd) ha hb), h]
        rw [q1]
/-- what dead answers -/
def deadS (A B : Nat → Nat) (n k : Nat) (v : Int32) : Int32 := v ||| (if deg A B n (ii k) = 1 then ii 1 <<< (ii k &&& ii 31) else ii 0)
def deadA (A B : Nat → Nat) (n : Nat) : Int32 := rngF (deadS A B n) 8 0 (ii 0)
theorem c_dead (hC : CSh c s T N R) (hS : StSh s T N R) (hG : GrC I s n A B W) (hn : n ≤ 10) (hnf : 70 < nf) : fX0_dead nf T N I R c = some (deadA A B n) := by
  unfold fX0_dead
  refine loop0 (fun k v l => fX0_dead_b4 nf T N I R k c v (ii l)) (deadS A B n) 8 (fun v => some v) ?_ ?_ (by omega) (ii 0)
  · intro k v l hl
    have hd := deg_le A B n (ii l)
    show fX0_dead_b4 nf T N I R (k + 1) c v (ii l) = fX0_dead_b4 nf T N I R k c (deadS A B n l v) (ii (l + 1))
    rw [fX0_dead_b4]
    unfold deadS
    by_cases h : deg A B n (ii l) = 1
    · simp (disch := omega) only [↓nm_v, ↓tg, ↓rA, ↓chk_if, ↓reduceIte, inb_ii, ii_nat, ii_add, and_self, bi_zb, if_bi, if_bi1, ii_leT, ii_leF, ii_ltT, ii_ltF, ii_eqF, ii_m1F, ↓cb_2 hC, ↓cb_1 hC, ↓cb_3 hC, ↓cb_4 hC, ↓cb_5 hC, ↓cb_6 hC, ↓cb_7 hC, ↓cb_10 hC, ↓cb_17 hC, ↓cb_18 hC, ↓cb_19 hC, ↓cb_20 hC, ↓cb_21 hC, ↓cb_22 hC, ↓cb_23 hC, ↓cb_8 hC, ↓cb_9 hC, ↓cb_24 hC, ↓cb_16 hC, ↓cb29_0 hC, ↓cb29_1 hC, ↓sb_0 hS, ↓sb1_0 hS, ↓sb1_1 hS, ↓sb1_2 hS, ↓sb_1 hS, ↓sb_2 hS, ↓sb_3 hS, ↓sb_4 hS, ↓sb_5 hS, ↓sb_6 hS, ↓sb_7 hS, hC, hS, ↓bn_of (c_lanesAt hC hS hG hn hnf (ii l)), h]
    · simp (disch := omega) only [↓nm_v, ↓tg, ↓rA, ↓chk_if, ↓reduceIte, inb_ii, ii_nat, ii_add, and_self, bi_zb, if_bi, if_bi1, ii_leT, ii_leF, ii_ltT, ii_ltF, ii_eqF, ii_m1F, ↓cb_2 hC, ↓cb_1 hC, ↓cb_3 hC, ↓cb_4 hC, ↓cb_5 hC, ↓cb_6 hC, ↓cb_7 hC, ↓cb_10 hC, ↓cb_17 hC, ↓cb_18 hC, ↓cb_19 hC, ↓cb_20 hC, ↓cb_21 hC, ↓cb_22 hC, ↓cb_23 hC, ↓cb_8 hC, ↓cb_9 hC, ↓cb_24 hC, ↓cb_16 hC, ↓cb29_0 hC, ↓cb29_1 hC, ↓sb_0 hS, ↓sb1_0 hS, ↓sb1_1 hS, ↓sb1_2 hS, ↓sb_1 hS, ↓sb_2 hS, ↓sb_3 hS, ↓sb_4 hS, ↓sb_5 hS, ↓sb_6 hS, ↓sb_7 hS, hC, hS, ↓bn_of (c_lanesAt hC hS hG hn hnf (ii l)), h]
  · intro k v
    show fX0_dead_b4 nf T N I R (k + 1) c v (ii 8) = _
    rw [fX0_dead_b4]
    simp (disch := omega) only [↓nm_v, ↓tg, ↓rA, ↓chk_if, ↓reduceIte, inb_ii, ii_nat, ii_add, and_self, bi_zb, if_bi, if_bi1, ii_leT, ii_leF, ii_ltT, ii_ltF, ii_eqF, ii_m1F, ↓cb_2 hC, ↓cb_1 hC, ↓cb_3 hC, ↓cb_4 hC, ↓cb_5 hC, ↓cb_6 hC, ↓cb_7 hC, ↓cb_10 hC, ↓cb_17 hC, ↓cb_18 hC, ↓cb_19 hC, ↓cb_20 hC, ↓cb_21 hC, ↓cb_22 hC, ↓cb_23 hC, ↓cb_8 hC, ↓cb_9 hC, ↓cb_24 hC, ↓cb_16 hC, ↓cb29_0 hC, ↓cb29_1 hC, ↓sb_0 hS, ↓sb1_0 hS, ↓sb1_1 hS, ↓sb1_2 hS, ↓sb_1 hS, ↓sb_2 hS, ↓sb_3 hS, ↓sb_4 hS, ↓sb_5 hS, ↓sb_6 hS, ↓sb_7 hS, hC, hS]
theorem m_dead (hM : MSh m T N R) (hG : GrM I m n A B W) (hn : n ≤ 10) (hnf : 70 < nf) : fX5_dead nf T N I R m = some (deadA A B n, uI I m 0 (ii 0)) := by
  have hG := GrM_t hG 0 (ii 0)
  unfold fX5_dead
  simp (disch := omega) only [↓nm_v, ↓tg, ↓rA, ↓chk_if, ↓reduceIte, inb_ii, ii_nat, ii_add, and_self, bi_zb, if_bi, if_bi1, ii_leT, ii_leF, ii_ltT, ii_ltF, ii_eqF, ii_m1F, ↓mb_2 hM, ↓mb_3 hM, ↓mb_4 hM, ↓mb_5 hM, ↓mb_6 hM, ↓mb_7 hM, ↓mb_9 hM, ↓mb_10 hM, ↓mb_12 hM, ↓mb_22 hM, ↓mb_24 hM, ↓mb_25 hM, ↓mb_27 hM, ↓mb_28 hM, ↓mb_31 hM, ↓mb_32 hM, ↓mb_33 hM, ↓mb_35 hM, ↓mb_36 hM, ↓mb_37 hM, ↓mb_41 hM, ↓mb_42 hM, ↓mb_43 hM, ↓mb_44 hM, ↓mb_45 hM, ↓mb_46 hM, ↓mb_47 hM, ↓mb_48 hM, ↓mb_49 hM, ↓mb_55 hM, hM]
  refine loop0 (fun k v l => fX5_dead_b9 nf T N R k (uI I m 0 (ii 0)) m v (ii l)) (deadS A B n) 8 (fun v => some (v, uI I m 0 (ii 0))) ?_ ?_ (by omega) (ii 0)
  · intro k v l hl
    have hd := deg_le A B n (ii l)
    show fX5_dead_b9 nf T N R (k + 1) (uI I m 0 (ii 0)) m v (ii l) = fX5_dead_b9 nf T N R k (uI I m 0 (ii 0)) m (deadS A B n l v) (ii (l + 1))
    rw [fX5_dead_b9]
    unfold deadS
    by_cases h : deg A B n (ii l) = 1
    · simp (disch := omega) only [↓nm_v, ↓tg, ↓rA, ↓chk_if, ↓reduceIte, inb_ii, ii_nat, ii_add, and_self, bi_zb, if_bi, if_bi1, ii_leT, ii_leF, ii_ltT, ii_ltF, ii_eqF, ii_m1F, ↓mb_2 hM, ↓mb_3 hM, ↓mb_4 hM, ↓mb_5 hM, ↓mb_6 hM, ↓mb_7 hM, ↓mb_9 hM, ↓mb_10 hM, ↓mb_12 hM, ↓mb_22 hM, ↓mb_24 hM, ↓mb_25 hM, ↓mb_27 hM, ↓mb_28 hM, ↓mb_31 hM, ↓mb_32 hM, ↓mb_33 hM, ↓mb_35 hM, ↓mb_36 hM, ↓mb_37 hM, ↓mb_41 hM, ↓mb_42 hM, ↓mb_43 hM, ↓mb_44 hM, ↓mb_45 hM, ↓mb_46 hM, ↓mb_47 hM, ↓mb_48 hM, ↓mb_49 hM, ↓mb_55 hM, hM, ↓bn_of (m_laneEnds hM hG hn hnf (ii l)), h]
    · simp (disch := omega) only [↓nm_v, ↓tg, ↓rA, ↓chk_if, ↓reduceIte, inb_ii, ii_nat, ii_add, and_self, bi_zb, if_bi, if_bi1, ii_leT, ii_leF, ii_ltT, ii_ltF, ii_eqF, ii_m1F, ↓mb_2 hM, ↓mb_3 hM, ↓mb_4 hM, ↓mb_5 hM, ↓mb_6 hM, ↓mb_7 hM, ↓mb_9 hM, ↓mb_10 hM, ↓mb_12 hM, ↓mb_22 hM, ↓mb_24 hM, ↓mb_25 hM, ↓mb_27 hM, ↓mb_28 hM, ↓mb_31 hM, ↓mb_32 hM, ↓mb_33 hM, ↓mb_35 hM, ↓mb_36 hM, ↓mb_37 hM, ↓mb_41 hM, ↓mb_42 hM, ↓mb_43 hM, ↓mb_44 hM, ↓mb_45 hM, ↓mb_46 hM, ↓mb_47 hM, ↓mb_48 hM, ↓mb_49 hM, ↓mb_55 hM, hM, ↓bn_of (m_laneEnds hM hG hn hnf (ii l)), h]
  · intro k v
    show fX5_dead_b9 nf T N R (k + 1) (uI I m 0 (ii 0)) m v (ii 8) = _
    rw [fX5_dead_b9]
    simp (disch := omega) only [↓nm_v, ↓tg, ↓rA, ↓chk_if, ↓reduceIte, inb_ii, ii_nat, ii_add, and_self, bi_zb, if_bi, if_bi1, ii_leT, ii_leF, ii_ltT, ii_ltF, ii_eqF, ii_m1F, ↓mb_2 hM, ↓mb_3 hM, ↓mb_4 hM, ↓mb_5 hM, ↓mb_6 hM, ↓mb_7 hM, ↓mb_9 hM, ↓mb_10 hM, ↓mb_12 hM, ↓mb_22 hM, ↓mb_24 hM, ↓mb_25 hM, ↓mb_27 hM, ↓mb_28 hM, ↓mb_31 hM, ↓mb_32 hM, ↓mb_33 hM, ↓mb_35 hM, ↓mb_36 hM, ↓mb_37 hM, ↓mb_41 hM, ↓mb_42 hM, ↓mb_43 hM, ↓mb_44 hM, ↓mb_45 hM, ↓mb_46 hM, ↓mb_47 hM, ↓mb_48 hM, ↓mb_49 hM, ↓mb_55 hM, hM]
/-- lanes meet -/
theorem at_mt (hP : GrP n A B W) {i j : Nat} (hi : i < n) (hj : j < n) : (atE A B i (ii (A j)) || atE A B i (ii (B j))) = mt A B i j := by
  have h1 := hP.2.1 i hi
  have h2 := hP.2.1 j hj
  have h3 := hP.2.2.1 i hi
  have h4 := hP.2.2.1 j hj
  unfold atE mt
  rw [ii_deq (by omega) (by omega), ii_deq (by omega) (by omega), ii_deq (by omega) (by omega), ii_deq (by omega) (by omega)]
theorem c_meet (hC : CSh c s T N R) (hS : StSh s T N R) (hG : GrC I s n A B W) (hP : GrP n A B W) {i j : Nat} (hi : i < n) (hj : j < n) : fX0_meet T N I R c (ii i) (ii j) = some (bi (mt A B i j)) := by
  have hn := hP.1
  unfold fX0_meet
  rw [← at_mt hP hi hj]
  simp (disch := omega) only [↓nm_v, ↓tg, ↓rA, ↓chk_if, ↓reduceIte, inb_ii, ii_nat, ii_add, and_self, bi_zb, if_bi, if_bi1, ii_leT, ii_leF, ii_ltT, ii_ltF, ii_eqF, ii_m1F, ↓cb_2 hC, ↓cb_1 hC, ↓cb_3 hC, ↓cb_4 hC, ↓cb_5 hC, ↓cb_6 hC, ↓cb_7 hC, ↓cb_10 hC, ↓cb_17 hC, ↓cb_18 hC, ↓cb_19 hC, ↓cb_20 hC, ↓cb_21 hC, ↓cb_22 hC, ↓cb_23 hC, ↓cb_8 hC, ↓cb_9 hC, ↓cb_24 hC, ↓cb_16 hC, ↓cb29_0 hC, ↓cb29_1 hC, ↓sb_0 hS, ↓sb1_0 hS, ↓sb1_1 hS, ↓sb1_2 hS, ↓sb_1 hS, ↓sb_2 hS, ↓sb_3 hS, ↓sb_4 hS, ↓sb_5 hS, ↓sb_6 hS, ↓sb_7 hS, hC, hS, hG, ↓bn_of (c_isAt hS hG hn hi (ii (A j))), ↓bn_of (c_isAt hS hG hn hi (ii (B j)))]
  cases atE A B i (ii (A j)) <;> cases atE A B i (ii (B j)) <;> rfl
theorem m_meet (hM : MSh m T N R) (hG : GrM I m n A B W) (hP : GrP n A B W) {i j : Nat} (hi : i < n) (hj : j < n) : fX5_haveCorner T N I R m (ii i) (ii j) = some (bi (mt A B i j)) := by
  have hn := hP.1
  unfold fX5_haveCorner
  rw [← at_mt hP hi hj]
  simp (disch := omega) only [↓nm_v, ↓tg, ↓rA, ↓chk_if, ↓reduceIte, inb_ii, ii_nat, ii_add, and_self, bi_zb, if_bi, if_bi1, ii_leT, ii_leF, ii_ltT, ii_ltF, ii_eqF, ii_m1F, ↓mb_2 hM, ↓mb_3 hM, ↓mb_4 hM, ↓mb_5 hM, ↓mb_6 hM, ↓mb_7 hM, ↓mb_9 hM, ↓mb_10 hM, ↓mb_12 hM, ↓mb_22 hM, ↓mb_24 hM, ↓mb_25 hM, ↓mb_27 hM, ↓mb_28 hM, ↓mb_31 hM, ↓mb_32 hM, ↓mb_33 hM, ↓mb_35 hM, ↓mb_36 hM, ↓mb_37 hM, ↓mb_41 hM, ↓mb_42 hM, ↓mb_43 hM, ↓mb_44 hM, ↓mb_45 hM, ↓mb_46 hM, ↓mb_47 hM, ↓mb_48 hM, ↓mb_49 hM, ↓mb_55 hM, hM, hG, ↓bn_of (m_ends hM hG hn hi (ii (A j))), ↓bn_of (m_ends hM hG hn hi (ii (B j)))]
  cases atE A B i (ii (A j)) <;> cases atE A B i (ii (B j)) <;> rfl
/-- what alike answers -/
def alikeS (A B : Nat → Nat) (Nm : Nat → Int32) (i j v : Nat) : Nat := if Nm i = -1 then v else if Nm i = Nm j then v + (mt A B i j).toNat else v
def alikeA (A B : Nat → Nat) (Nm : Nat → Int32) (n : Nat) : Nat := rngF (fun i v => rngF (alikeS A B Nm i) (n - (i + 1)) (i + 1) v) n 0 0
theorem c_alike (hC : CSh c s T N R) (hS : StSh s T N R) (hG : GrC I s n A B W) (hP : GrP n A B W) (hN : ∀ l, l < n → I (s + 4) l = Nm l) (hnf : 70 < nf) : fX0_alike nf T N I R c = some (ii (alikeA A B Nm n)) := by
  have hn := hP.1
  unfold fX0_alike
  refine loop0 (fun k v i => fX0_alike_b4 nf T N I R k c (ii v) (ii i)) _ n (fun v => some (ii v)) ?_ ?_ (by omega) 0
  · intro k v i hi
    show fX0_alike_b4 nf T N I R (k + 1) c (ii v) (ii i) = fX0_alike_b4 nf T N I R k c (ii (rngF (alikeS A B Nm i) (n - (i + 1)) (i + 1) v)) (ii (i + 1))
    rw [fX0_alike_b4]
    simp (disch := omega) only [↓nm_v, ↓tg, ↓rA, ↓chk_if, ↓reduceIte, inb_ii, ii_nat, ii_add, and_self, bi_zb, if_bi, if_bi1, ii_leT, ii_leF, ii_ltT, ii_ltF, ii_eqF, ii_m1F, ↓cb_2 hC, ↓cb_1 hC, ↓cb_3 hC, ↓cb_4 hC, ↓cb_5 hC, ↓cb_6 hC, ↓cb_7 hC, ↓cb_10 hC, ↓cb_17 hC, ↓cb_18 hC, ↓cb_19 hC, ↓cb_20 hC, ↓cb_21 hC, ↓cb_22 hC, ↓cb_23 hC, ↓cb_8 hC, ↓cb_9 hC, ↓cb_24 hC, ↓cb_16 hC, ↓cb29_0 hC, ↓cb29_1 hC, ↓sb_0 hS, ↓sb1_0 hS, ↓sb1_1 hS, ↓sb1_2 hS, ↓sb_1 hS, ↓sb_2 hS, ↓sb_3 hS, ↓sb_4 hS, ↓sb_5 hS, ↓sb_6 hS, ↓sb_7 hS, hC, hS, hG]
    refine loopL (fun q v j => fX0_alike_b19 nf (fX0_alike_b4 nf T N I R k) T N I R q c (ii v) (ii i) (ii j)) (alikeS A B Nm i) n (fun v => fX0_alike_b4 nf T N I R k c (ii v) (ii (i + 1))) ?_ ?_ (by omega) (by omega) v
    · intro q v j hj
      show fX0_alike_b19 nf (fX0_alike_b4 nf T N I R k) T N I R (q + 1) c (ii v) (ii i) (ii j) = fX0_alike_b19 nf (fX0_alike_b4 nf T N I R k) T N I R q c (ii (alikeS A B Nm i j v)) (ii i) (ii (j + 1))
      rw [fX0_alike_b19]
      have e1 := hN i hi
      have e2 := hN j hj
      unfold alikeS
      by_cases h1 : Nm i = -1
      · simp (disch := omega) only [↓nm_v, ↓tg, ↓rA, ↓chk_if, ↓reduceIte, inb_ii, ii_nat, ii_add, and_self, bi_zb, if_bi, if_bi1, ii_leT, ii_leF, ii_ltT, ii_ltF, ii_eqF, ii_m1F, ↓cb_2 hC, ↓cb_1 hC, ↓cb_3 hC, ↓cb_4 hC, ↓cb_5 hC, ↓cb_6 hC, ↓cb_7 hC, ↓cb_10 hC, ↓cb_17 hC, ↓cb_18 hC, ↓cb_19 hC, ↓cb_20 hC, ↓cb_21 hC, ↓cb_22 hC, ↓cb_23 hC, ↓cb_8 hC, ↓cb_9 hC, ↓cb_24 hC, ↓cb_16 hC, ↓cb29_0 hC, ↓cb29_1 hC, ↓sb_0 hS, ↓sb1_0 hS, ↓sb1_1 hS, ↓sb1_2 hS, ↓sb_1 hS, ↓sb_2 hS, ↓sb_3 hS, ↓sb_4 hS, ↓sb_5 hS, ↓sb_6 hS, ↓sb_7 hS, hC, hS, hG, fX0_table, ↓bn_e, e1, h1, Nat.add_zero]
      · by_cases h2 : Nm i = Nm j
        · simp (disch := omega) only [↓nm_v, ↓tg, ↓rA, ↓chk_if, ↓reduceIte, inb_ii, ii_nat, ii_add, and_self, bi_zb, if_bi, if_bi1, ii_leT, ii_leF, ii_ltT, ii_ltF, ii_eqF, ii_m1F, ↓cb_2 hC, ↓cb_1 hC, ↓cb_3 hC, ↓cb_4 hC, ↓cb_5 hC, ↓cb_6 hC, ↓cb_7 hC, ↓cb_10 hC, ↓cb_17 hC, ↓cb_18 hC, ↓cb_19 hC, ↓cb_20 hC, ↓cb_21 hC, ↓cb_22 hC, ↓cb_23 hC, ↓cb_8 hC, ↓cb_9 hC, ↓cb_24 hC, ↓cb_16 hC, ↓cb29_0 hC, ↓cb29_1 hC, ↓sb_0 hS, ↓sb1_0 hS, ↓sb1_1 hS, ↓sb1_2 hS, ↓sb_1 hS, ↓sb_2 hS, ↓sb_3 hS, ↓sb_4 hS, ↓sb_5 hS, ↓sb_6 hS, ↓sb_7 hS, hC, hS, hG, fX0_table, ↓bn_e, e1, e2, h1, ↓bn_of (c_meet hC hS hG hP hi hj), ← h2]
          cases mt A B i j <;> rfl
        · simp (disch := omega) only [↓nm_v, ↓tg, ↓rA, ↓chk_if, ↓reduceIte, inb_ii, ii_nat, ii_add, and_self, bi_zb, if_bi, if_bi1, ii_leT, ii_leF, ii_ltT, ii_ltF, ii_eqF, ii_m1F, ↓cb_2 hC, ↓cb_1 hC, ↓cb_3 hC, ↓cb_4 hC, ↓cb_5 hC, ↓cb_6 hC, ↓cb_7 hC, ↓cb_10 hC, ↓cb_17 hC, ↓cb_18 hC, ↓cb_19 hC, ↓cb_20 hC, ↓cb_21 hC, ↓cb_22 hC, ↓cb_23 hC, ↓cb_8 hC, ↓cb_9 hC, ↓cb_24 hC, ↓cb_16 hC, ↓cb29_0 hC, ↓cb29_1 hC, ↓sb_0 hS, ↓sb1_0 hS, ↓sb1_1 hS, ↓sb1_2 hS, ↓sb_1 hS, ↓sb_2 hS, ↓sb_3 hS, ↓sb_4 hS, ↓sb_5 hS, ↓sb_6 hS, ↓sb_7 hS, hC, hS, hG, fX0_table, ↓bn_e, e1, e2, h1, h2, Nat.add_zero]
    · intro q v
      show fX0_alike_b19 nf (fX0_alike_b4 nf T N I R k) T N I R (q + 1) c (ii v) (ii i) (ii n) = _
      rw [fX0_alike_b19]
      simp (disch := omega) only [↓nm_v, ↓tg, ↓rA, ↓chk_if, ↓reduceIte, inb_ii, ii_nat, ii_add, and_self, bi_zb, if_bi, if_bi1, ii_leT, ii_leF, ii_ltT, ii_ltF, ii_eqF, ii_m1F, ↓cb_2 hC, ↓cb_1 hC, ↓cb_3 hC, ↓cb_4 hC, ↓cb_5 hC, ↓cb_6 hC, ↓cb_7 hC, ↓cb_10 hC, ↓cb_17 hC, ↓cb_18 hC, ↓cb_19 hC, ↓cb_20 hC, ↓cb_21 hC, ↓cb_22 hC, ↓cb_23 hC, ↓cb_8 hC, ↓cb_9 hC, ↓cb_24 hC, ↓cb_16 hC, ↓cb29_0 hC, ↓cb29_1 hC, ↓sb_0 hS, ↓sb1_0 hS, ↓sb1_1 hS, ↓sb1_2 hS, ↓sb_1 hS, ↓sb_2 hS, ↓sb_3 hS, ↓sb_4 hS, ↓sb_5 hS, ↓sb_6 hS, ↓sb_7 hS, hC, hS, hG]
  · intro k v
    show fX0_alike_b4 nf T N I R (k + 1) c (ii v) (ii n) = _
    rw [fX0_alike_b4]
    simp (disch := omega) only [↓nm_v, ↓tg, ↓rA, ↓chk_if, ↓reduceIte, inb_ii, ii_nat, ii_add, and_self, bi_zb, if_bi, if_bi1, ii_leT, ii_leF, ii_ltT, ii_ltF, ii_eqF, ii_m1F, ↓cb_2 hC, ↓cb_1 hC, ↓cb_3 hC, ↓cb_4 hC, ↓cb_5 hC, ↓cb_6 hC, ↓cb_7 hC, ↓cb_10 hC, ↓cb_17 hC, ↓cb_18 hC, ↓cb_19 hC, ↓cb_20 hC, ↓cb_21 hC, ↓cb_22 hC, ↓cb_23 hC, ↓cb_8 hC, ↓cb_9 hC, ↓cb_24 hC, ↓cb_16 hC, ↓cb29_0 hC, ↓cb29_1 hC, ↓sb_0 hS, ↓sb1_0 hS, ↓sb1_1 hS, ↓sb1_2 hS, ↓sb_1 hS, ↓sb_2 hS, ↓sb_3 hS, ↓sb_4 hS, ↓sb_5 hS, ↓sb_6 hS, ↓sb_7 hS, hC, hS, hG]
theorem m_alike (hM : MSh m T N R) (hG : GrM I m n A B W) (hP : GrP n A B W) (hN : ∀ l, l < n → I (m + 2) (8 + l) = Nm l) (hnf : 70 < nf) : fX5_alike nf T N I R m = some (ii (alikeA A B Nm n), uI I m 0 (ii 0)) := by
  have hn := hP.1
  have hN : ∀ l, l < n → uI I m 0 (ii 0) (m + 2) (8 + l) = Nm l := by
    simp (disch := omega) only [uI_ne]
    exact hN
  have hG := GrM_t hG 0 (ii 0)
  unfold fX5_alike
  simp (disch := omega) only [↓nm_v, ↓tg, ↓rA, ↓chk_if, ↓reduceIte, inb_ii, ii_nat, ii_add, and_self, bi_zb, if_bi, if_bi1, ii_leT, ii_leF, ii_ltT, ii_ltF, ii_eqF, ii_m1F, ↓mb_2 hM, ↓mb_3 hM, ↓mb_4 hM, ↓mb_5 hM, ↓mb_6 hM, ↓mb_7 hM, ↓mb_9 hM, ↓mb_10 hM, ↓mb_12 hM, ↓mb_22 hM, ↓mb_24 hM, ↓mb_25 hM, ↓mb_27 hM, ↓mb_28 hM, ↓mb_31 hM, ↓mb_32 hM, ↓mb_33 hM, ↓mb_35 hM, ↓mb_36 hM, ↓mb_37 hM, ↓mb_41 hM, ↓mb_42 hM, ↓mb_43 hM, ↓mb_44 hM, ↓mb_45 hM, ↓mb_46 hM, ↓mb_47 hM, ↓mb_48 hM, ↓mb_49 hM, ↓mb_55 hM, hM]
  generalize uI I m 0 (ii 0) = I at hN hG ⊢
  refine loop0 (fun k v i => fX5_alike_b9 nf T N R k I m (ii v) (ii i)) (fun i v => rngF (alikeS A B Nm i) (n - (i + 1)) (i + 1) v) n (fun v => some (ii v, I)) ?_ ?_ (by omega) 0
  · intro k v i hi
    show fX5_alike_b9 nf T N R (k + 1) I m (ii v) (ii i) = fX5_alike_b9 nf T N R k I m (ii (rngF (alikeS A B Nm i) (n - (i + 1)) (i + 1) v)) (ii (i + 1))
    rw [fX5_alike_b9]
    simp (disch := omega) only [↓nm_v, ↓tg, ↓rA, ↓chk_if, ↓reduceIte, inb_ii, ii_nat, ii_add, and_self, bi_zb, if_bi, if_bi1, ii_leT, ii_leF, ii_ltT, ii_ltF, ii_eqF, ii_m1F, ↓mb_2 hM, ↓mb_3 hM, ↓mb_4 hM, ↓mb_5 hM, ↓mb_6 hM, ↓mb_7 hM, ↓mb_9 hM, ↓mb_10 hM, ↓mb_12 hM, ↓mb_22 hM, ↓mb_24 hM, ↓mb_25 hM, ↓mb_27 hM, ↓mb_28 hM, ↓mb_31 hM, ↓mb_32 hM, ↓mb_33 hM, ↓mb_35 hM, ↓mb_36 hM, ↓mb_37 hM, ↓mb_41 hM, ↓mb_42 hM, ↓mb_43 hM, ↓mb_44 hM, ↓mb_45 hM, ↓mb_46 hM, ↓mb_47 hM, ↓mb_48 hM, ↓mb_49 hM, ↓mb_55 hM, hM, hG]
    refine loopL (fun q v j => fX5_alike_b23 nf (fX5_alike_b9 nf T N R k) T N R q I m (ii v) (ii i) (ii j)) (alikeS A B Nm i) n (fun v => fX5_alike_b9 nf T N R k I m (ii v) (ii (i + 1))) ?_ ?_ (by omega) (by omega) v
    · intro q v j hj
      show fX5_alike_b23 nf (fX5_alike_b9 nf T N R k) T N R (q + 1) I m (ii v) (ii i) (ii j) = fX5_alike_b23 nf (fX5_alike_b9 nf T N R k) T N R q I m (ii (alikeS A B Nm i j v)) (ii i) (ii (j + 1))
      rw [fX5_alike_b23]
      have e1 := hN i hi
      have e2 := hN j hj
      unfold alikeS
      by_cases h1 : Nm i = -1
      · simp (disch := omega) only [↓nm_v, ↓tg, ↓rA, ↓chk_if, ↓reduceIte, inb_ii, ii_nat, ii_add, and_self, bi_zb, if_bi, if_bi1, ii_leT, ii_leF, ii_ltT, ii_ltF, ii_eqF, ii_m1F, ↓mb_2 hM, ↓mb_3 hM, ↓mb_4 hM, ↓mb_5 hM, ↓mb_6 hM, ↓mb_7 hM, ↓mb_9 hM, ↓mb_10 hM, ↓mb_12 hM, ↓mb_22 hM, ↓mb_24 hM, ↓mb_25 hM, ↓mb_27 hM, ↓mb_28 hM, ↓mb_31 hM, ↓mb_32 hM, ↓mb_33 hM, ↓mb_35 hM, ↓mb_36 hM, ↓mb_37 hM, ↓mb_41 hM, ↓mb_42 hM, ↓mb_43 hM, ↓mb_44 hM, ↓mb_45 hM, ↓mb_46 hM, ↓mb_47 hM, ↓mb_48 hM, ↓mb_49 hM, ↓mb_55 hM, hM, hG, e1, h1, Nat.add_zero]
      · by_cases h2 : Nm i = Nm j
        · simp (disch := omega) only [↓nm_v, ↓tg, ↓rA, ↓chk_if, ↓reduceIte, inb_ii, ii_nat, ii_add, and_self, bi_zb, if_bi, if_bi1, ii_leT, ii_leF, ii_ltT, ii_ltF, ii_eqF, ii_m1F, ↓mb_2 hM, ↓mb_3 hM, ↓mb_4 hM, ↓mb_5 hM, ↓mb_6 hM, ↓mb_7 hM, ↓mb_9 hM, ↓mb_10 hM, ↓mb_12 hM, ↓mb_22 hM, ↓mb_24 hM, ↓mb_25 hM, ↓mb_27 hM, ↓mb_28 hM, ↓mb_31 hM, ↓mb_32 hM, ↓mb_33 hM, ↓mb_35 hM, ↓mb_36 hM, ↓mb_37 hM, ↓mb_41 hM, ↓mb_42 hM, ↓mb_43 hM, ↓mb_44 hM, ↓mb_45 hM, ↓mb_46 hM, ↓mb_47 hM, ↓mb_48 hM, ↓mb_49 hM, ↓mb_55 hM, hM, hG, e1, e2, h1, ↓bn_of (m_meet hM hG hP hi hj), ← h2]
          cases mt A B i j <;> rfl
        · simp (disch := omega) only [↓nm_v, ↓tg, ↓rA, ↓chk_if, ↓reduceIte, inb_ii, ii_nat, ii_add, and_self, bi_zb, if_bi, if_bi1, ii_leT, ii_leF, ii_ltT, ii_ltF, ii_eqF, ii_m1F, ↓mb_2 hM, ↓mb_3 hM, ↓mb_4 hM, ↓mb_5 hM, ↓mb_6 hM, ↓mb_7 hM, ↓mb_9 hM, ↓mb_10 hM, ↓mb_12 hM, ↓mb_22 hM, ↓mb_24 hM, ↓mb_25 hM, ↓mb_27 hM, ↓mb_28 hM, ↓mb_31 hM, ↓mb_32 hM, ↓mb_33 hM, ↓mb_35 hM, ↓mb_36 hM, ↓mb_37 hM, ↓mb_41 hM, ↓mb_42 hM, ↓mb_43 hM, ↓mb_44 hM, ↓mb_45 hM, ↓mb_46 hM, ↓mb_47 hM, ↓mb_48 hM, ↓mb_49 hM, ↓mb_55 hM, hM, hG, e1, e2, h1, h2, Nat.add_zero]
    · intro q v
      show fX5_alike_b23 nf (fX5_alike_b9 nf T N R k) T N R (q + 1) I m (ii v) (ii i) (ii n) = _
      rw [fX5_alike_b23]
      simp (disch := omega) only [↓nm_v, ↓tg, ↓rA, ↓chk_if, ↓reduceIte, inb_ii, ii_nat, ii_add, and_self, bi_zb, if_bi, if_bi1, ii_leT, ii_leF, ii_ltT, ii_ltF, ii_eqF, ii_m1F, ↓mb_2 hM, ↓mb_3 hM, ↓mb_4 hM, ↓mb_5 hM, ↓mb_6 hM, ↓mb_7 hM, ↓mb_9 hM, ↓mb_10 hM, ↓mb_12 hM, ↓mb_22 hM, ↓mb_24 hM, ↓mb_25 hM, ↓mb_27 hM, ↓mb_28 hM, ↓mb_31 hM, ↓mb_32 hM, ↓mb_33 hM, ↓mb_35 hM, ↓mb_36 hM, ↓mb_37 hM, ↓mb_41 hM, ↓mb_42 hM, ↓mb_43 hM, ↓mb_44 hM, ↓mb_45 hM, ↓mb_46 hM, ↓mb_47 hM, ↓mb_48 hM, ↓mb_49 hM, ↓mb_55 hM, hM, hG]
  · intro k v
    show fX5_alike_b9 nf T N R (k + 1) I m (ii v) (ii n) = _
    rw [fX5_alike_b9]
    simp (disch := omega) only [↓nm_v, ↓tg, ↓rA, ↓chk_if, ↓reduceIte, inb_ii, ii_nat, ii_add, and_self, bi_zb, if_bi, if_bi1, ii_leT, ii_leF, ii_ltT, ii_ltF, ii_eqF, ii_m1F, ↓mb_2 hM, ↓mb_3 hM, ↓mb_4 hM, ↓mb_5 hM, ↓mb_6 hM, ↓mb_7 hM, ↓mb_9 hM, ↓mb_10 hM, ↓mb_12 hM, ↓mb_22 hM, ↓mb_24 hM, ↓mb_25 hM, ↓mb_27 hM, ↓mb_28 hM, ↓mb_31 hM, ↓mb_32 hM, ↓mb_33 hM, ↓mb_35 hM, ↓mb_36 hM, ↓mb_37 hM, ↓mb_41 hM, ↓mb_42 hM, ↓mb_43 hM, ↓mb_44 hM, ↓mb_45 hM, ↓mb_46 hM, ↓mb_47 hM, ↓mb_48 hM, ↓mb_49 hM, ↓mb_55 hM, hM, hG]
/-- what named answers -/
def fstN (Nm : Nat → Int32) (x v : Int32) : Nat → Nat → Int32
  | 0, _ => v
  | d + 1, l => if Nm l = x then ii l else fstN Nm x v d (l + 1)
def namedA (Nm : Nat → Int32) (n : Nat) (x : Int32) : Int32 := if rg x 0 19 = true then fstN Nm x (-1) n 0 else -1
theorem c_named (hC : CSh c s T N R) (hS : StSh s T N R) (hG : GrC I s n A B W) (hn : n ≤ 10) (hN : ∀ l, l < n → I (s + 4) l = Nm l) (hnf : 70 < nf) (x : Int32) : fX0_named nf T N I R c x = some (namedA Nm n x) := by
  have hl : ∀ d l k, l + d = n → d < k → fX0_named_b14 nf T N I R k c x (ii l) = some (fstN Nm x (-1) d l) := by
    intro d
    induction d with
    | zero =>
      intro l k h1 h2
      obtain ⟨k, rfl⟩ : ∃ k', k = k' + 1 := ⟨k - 1, by omega⟩
      have : l = n := by omega
      subst this
      rw [fX0_named_b14]
      simp (disch := omega) only [↓nm_v, ↓tg, ↓rA, ↓chk_if, ↓reduceIte, inb_ii, ii_nat, ii_add, and_self, bi_zb, if_bi, if_bi1, ii_leT, ii_leF, ii_ltT, ii_ltF, ii_eqF, ii_m1F, ↓cb_2 hC, ↓cb_1 hC, ↓cb_3 hC, ↓cb_4 hC, ↓cb_5 hC, ↓cb_6 hC, ↓cb_7 hC, ↓cb_10 hC, ↓cb_17 hC, ↓cb_18 hC, ↓cb_19 hC, ↓cb_20 hC, ↓cb_21 hC, ↓cb_22 hC, ↓cb_23 hC, ↓cb_8 hC, ↓cb_9 hC, ↓cb_24 hC, ↓cb_16 hC, ↓cb29_0 hC, ↓cb29_1 hC, ↓sb_0 hS, ↓sb1_0 hS, ↓sb1_1 hS, ↓sb1_2 hS, ↓sb_1 hS, ↓sb_2 hS, ↓sb_3 hS, ↓sb_4 hS, ↓sb_5 hS, ↓sb_6 hS, ↓sb_7 hS, hC, hS, hG]
      rfl
    | succ d ih =>
      intro l k h1 h2
      obtain ⟨k, rfl⟩ : ∃ k', k = k' + 1 := ⟨k - 1, by omega⟩
      rw [fX0_named_b14]
      have e := hN l (by omega)
      unfold fstN
      by_cases h : Nm l = x
      · simp (disch := omega) only [↓nm_v, ↓tg, ↓rA, ↓chk_if, ↓reduceIte, inb_ii, ii_nat, ii_add, and_self, bi_zb, if_bi, if_bi1, ii_leT, ii_leF, ii_ltT, ii_ltF, ii_eqF, ii_m1F, ↓cb_2 hC, ↓cb_1 hC, ↓cb_3 hC, ↓cb_4 hC, ↓cb_5 hC, ↓cb_6 hC, ↓cb_7 hC, ↓cb_10 hC, ↓cb_17 hC, ↓cb_18 hC, ↓cb_19 hC, ↓cb_20 hC, ↓cb_21 hC, ↓cb_22 hC, ↓cb_23 hC, ↓cb_8 hC, ↓cb_9 hC, ↓cb_24 hC, ↓cb_16 hC, ↓cb29_0 hC, ↓cb29_1 hC, ↓sb_0 hS, ↓sb1_0 hS, ↓sb1_1 hS, ↓sb1_2 hS, ↓sb_1 hS, ↓sb_2 hS, ↓sb_3 hS, ↓sb_4 hS, ↓sb_5 hS, ↓sb_6 hS, ↓sb_7 hS, hC, hS, hG, fX0_table, ↓bn_e, e, h]
      · simp (disch := omega) only [↓nm_v, ↓tg, ↓rA, ↓chk_if, ↓reduceIte, inb_ii, ii_nat, ii_add, and_self, bi_zb, if_bi, if_bi1, ii_leT, ii_leF, ii_ltT, ii_ltF, ii_eqF, ii_m1F, ↓cb_2 hC, ↓cb_1 hC, ↓cb_3 hC, ↓cb_4 hC, ↓cb_5 hC, ↓cb_6 hC, ↓cb_7 hC, ↓cb_10 hC, ↓cb_17 hC, ↓cb_18 hC, ↓cb_19 hC, ↓cb_20 hC, ↓cb_21 hC, ↓cb_22 hC, ↓cb_23 hC, ↓cb_8 hC, ↓cb_9 hC, ↓cb_24 hC, ↓cb_16 hC, ↓cb29_0 hC, ↓cb29_1 hC, ↓sb_0 hS, ↓sb1_0 hS, ↓sb1_1 hS, ↓sb1_2 hS, ↓sb_1 hS, ↓sb_2 hS, ↓sb_3 hS, ↓sb_4 hS, ↓sb_5 hS, ↓sb_6 hS, ↓sb_7 hS, hC, hS, hG, fX0_table, ↓bn_e, e, h]
        exact ih (l + 1) k (by omega) (by omega)
  unfold fX0_named namedA
  cases h : rg x 0 19 with
  | false => simp (disch := omega) only [↓nm_v, ↓tg, ↓rA, ↓chk_if, ↓reduceIte, inb_ii, ii_nat, ii_add, and_self, bi_zb, if_bi, if_bi1, ii_leT, ii_leF, ii_ltT, ii_ltF, ii_eqF, ii_m1F, ↓cb_2 hC, ↓cb_1 hC, ↓cb_3 hC, ↓cb_4 hC, ↓cb_5 hC, ↓cb_6 hC, ↓cb_7 hC, ↓cb_10 hC, ↓cb_17 hC, ↓cb_18 hC, ↓cb_19 hC, ↓cb_20 hC, ↓cb_21 hC, ↓cb_22 hC, ↓cb_23 hC, ↓cb_8 hC, ↓cb_9 hC, ↓cb_24 hC, ↓cb_16 hC, ↓cb29_0 hC, ↓cb29_1 hC, ↓sb_0 hS, ↓sb1_0 hS, ↓sb1_1 hS, ↓sb1_2 hS, ↓sb_1 hS, ↓sb_2 hS, ↓sb_3 hS, ↓sb_4 hS, ↓sb_5 hS, ↓sb_6 hS, ↓sb_7 hS, hC, hS, ↓bn_of (c_i0_19 x), h, Bool.false_eq_true]
  | true =>
    simp (disch := omega) only [↓nm_v, ↓tg, ↓rA, ↓chk_if, ↓reduceIte, inb_ii, ii_nat, ii_add, and_self, bi_zb, if_bi, if_bi1, ii_leT, ii_leF, ii_ltT, ii_ltF, ii_eqF, ii_m1F, ↓cb_2 hC, ↓cb_1 hC, ↓cb_3 hC, ↓cb_4 hC, ↓cb_5 hC, ↓cb_6 hC, ↓cb_7 hC, ↓cb_10 hC, ↓cb_17 hC, ↓cb_18 hC, ↓cb_19 hC, ↓cb_20 hC, ↓cb_21 hC, ↓cb_22 hC, ↓cb_23 hC, ↓cb_8 hC, ↓cb_9 hC, ↓cb_24 hC, ↓cb_16 hC, ↓cb29_0 hC, ↓cb29_1 hC, ↓sb_0 hS, ↓sb1_0 hS, ↓sb1_1 hS, ↓sb1_2 hS, ↓sb_1 hS, ↓sb_2 hS, ↓sb_3 hS, ↓sb_4 hS, ↓sb_5 hS, ↓sb_6 hS, ↓sb_7 hS, hC, hS, ↓bn_of (c_i0_19 x), h]
    exact hl n 0 nf (by omega) (by omega)
theorem fst_end (Nm : Nat → Int32) (x : Int32) : ∀ (d j : Nat) (v : Int32), fstN Nm x v (d + 1) j = fstN Nm x (if Nm (j + d) = x then ii (j + d) else v) d j := by
  intro d
  induction d with
  | zero => intro j v; rfl
  | succ d ih =>
    intro j v
    show (if Nm j = x then ii j else fstN Nm x v (d + 1) (j + 1)) = if Nm j = x then ii j else fstN Nm x _ d (j + 1)
    rw [ih, show j + 1 + d = j + (d + 1) by omega]
theorem m_named (hM : MSh m T N R) (hG : GrM I m n A B W) (hn : n ≤ 10) (hN : ∀ l, l < n → I (m + 2) (8 + l) = Nm l) (hnf : 70 < nf) (x : Int32) : fX5_named nf T N I R m x = some (namedA Nm n x, uI I m 0 (ii 0)) := by
  have hN : ∀ l, l < n → uI I m 0 (ii 0) (m + 2) (8 + l) = Nm l := by
    simp (disch := omega) only [uI_ne]
    exact hN
  have hG := GrM_t hG 0 (ii 0)
  unfold fX5_named
  simp (disch := omega) only [↓nm_v, ↓tg, ↓rA, ↓chk_if, ↓reduceIte, inb_ii, ii_nat, ii_add, and_self, bi_zb, if_bi, if_bi1, ii_leT, ii_leF, ii_ltT, ii_ltF, ii_eqF, ii_m1F, ↓mb_2 hM, ↓mb_3 hM, ↓mb_4 hM, ↓mb_5 hM, ↓mb_6 hM, ↓mb_7 hM, ↓mb_9 hM, ↓mb_10 hM, ↓mb_12 hM, ↓mb_22 hM, ↓mb_24 hM, ↓mb_25 hM, ↓mb_27 hM, ↓mb_28 hM, ↓mb_31 hM, ↓mb_32 hM, ↓mb_33 hM, ↓mb_35 hM, ↓mb_36 hM, ↓mb_37 hM, ↓mb_41 hM, ↓mb_42 hM, ↓mb_43 hM, ↓mb_44 hM, ↓mb_45 hM, ↓mb_46 hM, ↓mb_47 hM, ↓mb_48 hM, ↓mb_49 hM, ↓mb_55 hM, hM, hG]
  generalize uI I m 0 (ii 0) = I at hN hG ⊢
  have hl : ∀ l k v, l ≤ n → l < k → fX5_named_b16 nf T N R k I m x v (ii l - ii 1) = some (if rg x 0 19 = true then fstN Nm x v l 0 else v, I) := by
    intro l
    induction l with
    | zero =>
      intro k v _ h2
      obtain ⟨k, rfl⟩ : ∃ k', k = k' + 1 := ⟨k - 1, by omega⟩
      rw [fX5_named_b16, if_pos (show ii 0 - ii 1 < ii 0 by decide)]
      simp [fstN]
    | succ l ih =>
      intro k v h1 h2
      obtain ⟨k, rfl⟩ : ∃ k', k = k' + 1 := ⟨k - 1, by omega⟩
      rw [fX5_named_b16]
      have e := hN l (by omega)
      have e0 : ii (l + 1) - ii 1 = ii l := ii_sub (by omega)
      have e1 : ii l + (-1 : Int32) = ii l - ii 1 := by rw [show (-1 : Int32) = -ii 1 by decide, ← Int32.sub_eq_add_neg]
      cases h : rg x 0 19 with
      | false =>
        simp (disch := omega) only [↓nm_v, ↓tg, ↓rA, ↓chk_if, ↓reduceIte, inb_ii, ii_nat, ii_add, and_self, bi_zb, if_bi, if_bi1, ii_leT, ii_leF, ii_ltT, ii_ltF, ii_eqF, ii_m1F, ↓mb_2 hM, ↓mb_3 hM, ↓mb_4 hM, ↓mb_5 hM, ↓mb_6 hM, ↓mb_7 hM, ↓mb_9 hM, ↓mb_10 hM, ↓mb_12 hM, ↓mb_22 hM, ↓mb_24 hM, ↓mb_25 hM, ↓mb_27 hM, ↓mb_28 hM, ↓mb_31 hM, ↓mb_32 hM, ↓mb_33 hM, ↓mb_35 hM, ↓mb_36 hM, ↓mb_37 hM, ↓mb_41 hM, ↓mb_42 hM, ↓mb_43 hM, ↓mb_44 hM, ↓mb_45 hM, ↓mb_46 hM, ↓mb_47 hM, ↓mb_48 hM, ↓mb_49 hM, ↓mb_55 hM, hM, ↓bn_of (m_i0_19 x), h, e0, e1, Bool.false_eq_true]
        rw [ih k v (by omega) (by omega), h]
        rfl
      | true =>
        rw [fst_end, Nat.zero_add]
        by_cases q : Nm l = x
        · simp (disch := omega) only [↓nm_v, ↓tg, ↓rA, ↓chk_if, ↓reduceIte, inb_ii, ii_nat, ii_add, and_self, bi_zb, if_bi, if_bi1, ii_leT, ii_leF, ii_ltT, ii_ltF, ii_eqF, ii_m1F, ↓mb_2 hM, ↓mb_3 hM, ↓mb_4 hM, ↓mb_5 hM, ↓mb_6 hM, ↓mb_7 hM, ↓mb_9 hM, ↓mb_10 hM, ↓mb_12 hM, ↓mb_22 hM, ↓mb_24 hM, ↓mb_25 hM, ↓mb_27 hM, ↓mb_28 hM, ↓mb_31 hM, ↓mb_32 hM, ↓mb_33 hM, ↓mb_35 hM, ↓mb_36 hM, ↓mb_37 hM, ↓mb_41 hM, ↓mb_42 hM, ↓mb_43 hM, ↓mb_44 hM, ↓mb_45 hM, ↓mb_46 hM, ↓mb_47 hM, ↓mb_48 hM, ↓mb_49 hM, ↓mb_55 hM, hM, ↓bn_of (m_i0_19 x), h, e0, e1, e, q]
          rw [ih k _ (by omega) (by omega), h]
          rfl
        · simp (disch := omega) only [↓nm_v, ↓tg, ↓rA, ↓chk_if, ↓reduceIte, inb_ii, ii_nat, ii_add, and_self, bi_zb, if_bi, if_bi1, ii_leT, ii_leF, ii_ltT, ii_ltF, ii_eqF, ii_m1F, ↓mb_2 hM, ↓mb_3 hM, ↓mb_4 hM, ↓mb_5 hM, ↓mb_6 hM, ↓mb_7 hM, ↓mb_9 hM, ↓mb_10 hM, ↓mb_12 hM, ↓mb_22 hM, ↓mb_24 hM, ↓mb_25 hM, ↓mb_27 hM, ↓mb_28 hM, ↓mb_31 hM, ↓mb_32 hM, ↓mb_33 hM, ↓mb_35 hM, ↓mb_36 hM, ↓mb_37 hM, ↓mb_41 hM, ↓mb_42 hM, ↓mb_43 hM, ↓mb_44 hM, ↓mb_45 hM, ↓mb_46 hM, ↓mb_47 hM, ↓mb_48 hM, ↓mb_49 hM, ↓mb_55 hM, hM, ↓bn_of (m_i0_19 x), h, e0, e1, e, q]
          rw [ih k _ (by omega) (by omega), h]
          rfl
  exact hl n nf (-1) (by omega) (by omega)
end
