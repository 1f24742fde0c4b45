/-! PLAIN LAND, 21: letters, both sides -/
/-- the nearer end of a lane, the lower of alike ones -/
def neN (D A B : Nat → Nat) (f l : Nat) : Nat := if D (8 * f + A l) < D (8 * f + B l) then A l else if D (8 * f + A l) = D (8 * f + B l) then min (A l) (B l) else B l
def lfS (D A B : Nat → Nat) (Nm : Nat → Int32) (f : Nat) (x : Int32) (l : Nat) (p : Int32 × Nat) : Int32 × Nat := if Nm l = x ∧ D (8 * f + neN D A B f l) < p.2 then (ii l, D (8 * f + neN D A B f l)) else p
def lfN (F : Nat) (D A B : Nat → Nat) (Nm : Nat → Int32) (f : Nat) (x : Int32) (n : Nat) : Int32 × Nat := rngF (lfS D A B Nm f x) n 0 (-1, F)
theorem neN_lt {D A B : Nat → Nat} {f l : Nat} (hA : A l < 8) (hB : B l < 8) : neN D A B f l < 8 := by
  unfold neN
  (repeat' split) <;> omega
theorem neN_two {D E A B : Nat → Nat} {f l : Nat} (h : fw2 1000000 100000000 2304 D E) (hf : f < 8) (hA : A l < 8) (hB : B l < 8) : neN D A B f l = neN E A B f l := by
  have h1 := h f (A l) hf hA
  have h2 := h f (B l) hf hB
  unfold neN
  (repeat' split) <;> omega
theorem lf_two {D E A B : Nat → Nat} {Nm : Nat → Int32} {f n : Nat} {x : Int32} (h : fw2 1000000 100000000 2304 D E) (hf : f < 8) (hA : ∀ l, l < n → A l < 8) (hB : ∀ l, l < n → B l < 8) :
    (lfN 1000000 D A B Nm f x n = (-1, 1000000) ∧ lfN 100000000 E A B Nm f x n = (-1, 100000000)) ∨ ∃ l, l < n ∧ lfN 1000000 D A B Nm f x n = (ii l, D (8 * f + neN D A B f l)) ∧ lfN 100000000 E A B Nm f x n = (ii l, D (8 * f + neN D A B f l)) ∧ D (8 * f + neN D A B f l) ≤ 2304 := by
  induction n with
  | zero => exact Or.inl ⟨rfl, rfl⟩
  | succ n ih =>
    have ih := ih (fun l hl => hA l (by omega)) (fun l hl => hB l (by omega))
    have a1 := hA n (by omega)
    have a2 := hB n (by omega)
    have e1 : lfN 1000000 D A B Nm f x (n + 1) = lfS D A B Nm f x n (lfN 1000000 D A B Nm f x n) := rngF_s _ _ _
    have e2 : lfN 100000000 E A B Nm f x (n + 1) = lfS E A B Nm f x n (lfN 100000000 E A B Nm f x n) := rngF_s _ _ _
    have hne := neN_lt (D := D) (f := f) a1 a2
    have hv := h f (neN D A B f n) hf hne
    rw [e1, e2]
    unfold lfS
    rw [← neN_two h hf a1 a2]
    rcases ih with ⟨h1, h2⟩ | ⟨l, hl, h1, h2, h3⟩
    · rw [h1, h2]
      by_cases q : Nm n = x ∧ D (8 * f + neN D A B f n) < 1000000
      · right
        refine ⟨n, by omega, ?_, ?_, by omega⟩
        · rw [if_pos q]
        · rw [if_pos ⟨q.1, by show E _ < 100000000; omega⟩]
          rw [show E (8 * f + neN D A B f n) = D (8 * f + neN D A B f n) by omega]
      · left
        refine ⟨if_neg q, if_neg (fun h => q ⟨h.1, ?_⟩)⟩
        have := h.2
        have : E (8 * f + neN D A B f n) < 100000000 := this
        omega
    · rw [h1, h2]
      right
      by_cases q : Nm n = x ∧ D (8 * f + neN D A B f n) < D (8 * f + neN D A B f l)
      · refine ⟨n, by omega, ?_, ?_, by omega⟩
        · rw [if_pos q]
        · rw [if_pos ⟨q.1, by show E _ < D _; omega⟩]
          rw [show E (8 * f + neN D A B f n) = D (8 * f + neN D A B f n) by omega]
      · refine ⟨l, by omega, if_neg q, if_neg (fun h => q ⟨h.1, ?_⟩), h3⟩
        have : E (8 * f + neN D A B f n) < D (8 * f + neN D A B f l) := h.2
        omega
def fnd (P : Nat → Bool) : Nat → Nat → Nat
  | 0, l => l
  | d + 1, l => if P l = true then l else fnd P d (l + 1)
theorem fnd_ok {P : Nat → Bool} : ∀ (d l x : Nat), l ≤ x → x < l + d → P x = true → P (fnd P d l) = true ∧ l ≤ fnd P d l ∧ fnd P d l ≤ x := by
  intro d
  induction d with
  | zero => intro l x h1 h2; omega
  | succ d ih =>
    intro l x h1 h2 h3
    unfold fnd
    by_cases q : P l = true
    · rw [if_pos q]; exact ⟨q, Nat.le_refl _, h1⟩
    · rw [if_neg q]
      have : x ≠ l := by
        intro e
        rw [e] at h3
        exact q h3
      obtain ⟨a, b, c⟩ := ih (l + 1) x (by omega) (by omega) h3
      exact ⟨a, by omega, c⟩
theorem fnd_congr {P Q : Nat → Bool} : ∀ (d l : Nat), (∀ x, l ≤ x → x < l + d → P x = Q x) → fnd P d l = fnd Q d l := by
  intro d
  induction d with
  | zero => intro l _; rfl
  | succ d ih =>
    intro l h
    unfold fnd
    rw [h l (Nat.le_refl _) (by omega), ih (l + 1) (fun x a b => h x (by omega) (by omega))]
/-- leads on -/
def onP (A B W : Nat → Nat) (n a t x : Nat) : Bool := decide (ll 1000000 A B W n a x + fwA 1000000 A B W n (8 * x + t) = fwA 1000000 A B W n (8 * a + t))
def nxN (A B W : Nat → Nat) (n a t : Nat) : Nat := fnd (onP A B W n a t) 8 0
theorem nx_ok {A B W : Nat → Nat} {n : Nat} (hP : GrP n A B W) {a t : Nat} (ha : a < 8) (ht : t < 8) (hne : a ≠ t) (hd : fwA 1000000 A B W n (8 * a + t) < 1000000) :
    nxN A B W n a t < 8 ∧ fwA 1000000 A B W n (8 * nxN A B W n a t + t) < fwA 1000000 A B W n (8 * a + t) ∧ onP A B W n a t (nxN A B W n a t) = true := by
  obtain ⟨h1, h2, h3, h4, h5, h6⟩ := fwK 1000000 hP
  obtain ⟨x, hx, g1, g2⟩ := h6 a t ha ht hne hd
  have hax : a ≠ x := by
    intro e
    subst e
    rw [ll_self hP.2.2.2.1] at g1
    omega
  have g3 := h5 a x ha hx hax
  have g4 := h4 a t x ha ht hx
  have g5 : onP A B W n a t x = true := decide_eq_true (by omega)
  obtain ⟨k1, k2, k3⟩ := fnd_ok (P := onP A B W n a t) 8 0 x (Nat.zero_le _) (by omega) g5
  have k4 : ll 1000000 A B W n a (nxN A B W n a t) + fwA 1000000 A B W n (8 * nxN A B W n a t + t) = fwA 1000000 A B W n (8 * a + t) := of_decide_eq_true k1
  have k5 := ll_small (F := 1000000) (A := A) (B := B) hP.2.2.2.2 a (nxN A B W n a t)
  refine ⟨by unfold nxN; omega, ?_, k1⟩
  rcases k5 with k5 | ⟨k5, _⟩ <;> omega
/-- along the way: at k of i -/
def wkN (A B W : Nat → Nat) (n t i : Nat) : Nat → Nat → Nat → Int32
  | 0, a, k => if i < k then ii a else -1
  | M + 1, a, k => if i < k then ii a else if a = t then -1 else wkN A B W n t i M (nxN A B W n a t) (k + 1)
section
variable {T N : xT} {R : xR} {I : xI} {c s m n nf : Nat} {A B W : Nat → Nat} {D : Nat → Nat} {Nm : Nat → Int32}
theorem c_otherEnd (hS : StSh s T N R) (hG : GrC I s n A B W) (hn : n ≤ 10) {l : Nat} (hl : l < n) (x : Int32) : fX1_otherEnd T N I R s (ii l) x = some (if ii (A l) = x then ii (B l) else ii (A l)) := by
  unfold fX1_otherEnd
  by_cases h : ii (A l) = x
  · simp (disch := omega) only [↓nm_v, ↓tg, ↓rA, ↓chk_if, ↓reduceIte, inb_ii, ii_nat, ii_add, and_self, bi_zb, if_bi, if_bi1, ii_leT, ii_leF, ii_ltT, ii_ltF, ii_eqF, ii_m1F, ↓sb_0 hS, ↓sb1_0 hS, ↓sb1_1 hS, ↓sb1_2 hS, ↓sb_1 hS, ↓sb_2 hS, ↓sb_3 hS, ↓sb_4 hS, ↓sb_5 hS, ↓sb_6 hS, ↓sb_7 hS, hS, hG, h]
  · simp (disch := omega) only [↓nm_v, ↓tg, ↓rA, ↓chk_if, ↓reduceIte, inb_ii, ii_nat, ii_add, and_self, bi_zb, if_bi, if_bi1, ii_leT, ii_leF, ii_ltT, ii_ltF, ii_eqF, ii_m1F, ↓sb_0 hS, ↓sb1_0 hS, ↓sb1_1 hS, ↓sb1_2 hS, ↓sb_1 hS, ↓sb_2 hS, ↓sb_3 hS, ↓sb_4 hS, ↓sb_5 hS, ↓sb_6 hS, ↓sb_7 hS, hS, hG, h]
theorem c_laneLong (hC : CSh c s T N R) (hS : StSh s T N R) (hG : GrC I s n A B W) (hP : GrP n A B W) (hnf : 70 < nf) {a b : Nat} (ha : a < 8) (hb : b < 8) : fX0_laneLong nf T N I R c (ii a) (ii b) = some (ii (ll 1000000 A B W n a b)) := by
  obtain ⟨hn, hA, hB, hne, hW⟩ := hP
  unfold fX0_laneLong
  refine loop_up (fun q x l => fX0_laneLong_b7 nf T N I R q c (ii a) (ii b) (ii x) (ii l)) (llS A B W a b) (fun _ x => x ≤ 1000000) n (fun x => some (ii x)) ?_ ?_ n 0 1000000 nf (by omega) (by omega) (by omega)
  · intro q x l hl hx
    have a1 := hA l hl
    have a2 := hB l hl
    have a3 := hne l hl
    have a4 := hW l hl
    refine ⟨?_, ?_⟩
    · show fX0_laneLong_b7 nf T N I R (q + 1) c (ii a) (ii b) (ii x) (ii l) = fX0_laneLong_b7 nf T N I R q c (ii a) (ii b) (ii (llS A B W a b l x)) (ii (l + 1))
      rw [fX0_laneLong_b7]
      unfold llS
      by_cases q1 : A l = a
      · have t1 : atE A B l (ii a) = true := by unfold atE; rw [q1]; simp
        by_cases q2 : B l = b
        · rw [if_pos (Or.inl ⟨q1, q2⟩)]
          simp (disch := omega) only [↓nm_v, ↓tg, ↓rA, ↓chk_if, ↓reduceIte, inb_ii, ii_nat, ii_add, and_self, bi_zb, if_bi, if_bi1, ii_leT, ii_leF, ii_ltT, ii_ltF, ii_eqF, ii_m1F, ↓cb_2 hC, ↓cb_1 hC, ↓cb_3 hC, ↓cb_4 hC, ↓cb_5 hC, ↓cb_6 hC, ↓cb_7 hC, ↓cb_10 hC, ↓cb_17 hC, ↓cb_18 hC, ↓cb_19 hC, ↓cb_20 hC, ↓cb_21 hC, ↓cb_22 hC, ↓cb_23 hC, ↓cb_8 hC, ↓cb_9 hC, ↓cb_24 hC, ↓cb_16 hC, ↓cb29_0 hC, ↓cb29_1 hC, ↓sb_0 hS, ↓sb1_0 hS, ↓sb1_1 hS, ↓sb1_2 hS, ↓sb_1 hS, ↓sb_2 hS, ↓sb_3 hS, ↓sb_4 hS, ↓sb_5 hS, ↓sb_6 hS, ↓sb_7 hS, hC, hS, hG, ↓bn_of (c_isAt hS hG hn hl (ii a)), t1, ↓bn_of (c_otherEnd hS hG hn hl (ii a)), q1, q2, ii_min]
        · rw [if_neg (by omega)]
          simp (disch := omega) only [↓nm_v, ↓tg, ↓rA, ↓chk_if, ↓reduceIte, inb_ii, ii_nat, ii_add, and_self, bi_zb, if_bi, if_bi1, ii_leT, ii_leF, ii_ltT, ii_ltF, ii_eqF, ii_m1F, ↓cb_2 hC, ↓cb_1 hC, ↓cb_3 hC, ↓cb_4 hC, ↓cb_5 hC, ↓cb_6 hC, ↓cb_7 hC, ↓cb_10 hC, ↓cb_17 hC, ↓cb_18 hC, ↓cb_19 hC, ↓cb_20 hC, ↓cb_21 hC, ↓cb_22 hC, ↓cb_23 hC, ↓cb_8 hC, ↓cb_9 hC, ↓cb_24 hC, ↓cb_16 hC, ↓cb29_0 hC, ↓cb29_1 hC, ↓sb_0 hS, ↓sb1_0 hS, ↓sb1_1 hS, ↓sb1_2 hS, ↓sb_1 hS, ↓sb_2 hS, ↓sb_3 hS, ↓sb_4 hS, ↓sb_5 hS, ↓sb_6 hS, ↓sb_7 hS, hC, hS, hG, ↓bn_of (c_isAt hS hG hn hl (ii a)), t1, ↓bn_of (c_otherEnd hS hG hn hl (ii a)), q1]
      · by_cases q3 : B l = a
        · have t1 : atE A B l (ii a) = true := by unfold atE; rw [q3]; simp
          by_cases q2 : A l = b
          · rw [if_pos (Or.inr ⟨q2, q3⟩)]
            simp (disch := omega) only [↓nm_v, ↓tg, ↓rA, ↓chk_if, ↓reduceIte, inb_ii, ii_nat, ii_add, and_self, bi_zb, if_bi, if_bi1, ii_leT, ii_leF, ii_ltT, ii_ltF, ii_eqF, ii_m1F, ↓cb_2 hC, ↓cb_1 hC, ↓cb_3 hC, ↓cb_4 hC, ↓cb_5 hC, ↓cb_6 hC, ↓cb_7 hC, ↓cb_10 hC, ↓cb_17 hC, ↓cb_18 hC, ↓cb_19 hC, ↓cb_20 hC, ↓cb_21 hC, ↓cb_22 hC, ↓cb_23 hC, ↓cb_8 hC, ↓cb_9 hC, ↓cb_24 hC, ↓cb_16 hC, ↓cb29_0 hC, ↓cb29_1 hC, ↓sb_0 hS, ↓sb1_0 hS, ↓sb1_1 hS, ↓sb1_2 hS, ↓sb_1 hS, ↓sb_2 hS, ↓sb_3 hS, ↓sb_4 hS, ↓sb_5 hS, ↓sb_6 hS, ↓sb_7 hS, hC, hS, hG, ↓bn_of (c_isAt hS hG hn hl (ii a)), t1, ↓bn_of (c_otherEnd hS hG hn hl (ii a)), ii_min]
            rw [if_pos (by rw [q2])]
          · rw [if_neg (by omega)]
            simp (disch := omega) only [↓nm_v, ↓tg, ↓rA, ↓chk_if, ↓reduceIte, inb_ii, ii_nat, ii_add, and_self, bi_zb, if_bi, if_bi1, ii_leT, ii_leF, ii_ltT, ii_ltF, ii_eqF, ii_m1F, ↓cb_2 hC, ↓cb_1 hC, ↓cb_3 hC, ↓cb_4 hC, ↓cb_5 hC, ↓cb_6 hC, ↓cb_7 hC, ↓cb_10 hC, ↓cb_17 hC, ↓cb_18 hC, ↓cb_19 hC, ↓cb_20 hC, ↓cb_21 hC, ↓cb_22 hC, ↓cb_23 hC, ↓cb_8 hC, ↓cb_9 hC, ↓cb_24 hC, ↓cb_16 hC, ↓cb29_0 hC, ↓cb29_1 hC, ↓sb_0 hS, ↓sb1_0 hS, ↓sb1_1 hS, ↓sb1_2 hS, ↓sb_1 hS, ↓sb_2 hS, ↓sb_3 hS, ↓sb_4 hS, ↓sb_5 hS, ↓sb_6 hS, ↓sb_7 hS, hC, hS, hG, ↓bn_of (c_isAt hS hG hn hl (ii a)), t1, ↓bn_of (c_otherEnd hS hG hn hl (ii a))]
        · have t1 : atE A B l (ii a) = false := by
            unfold atE
            rw [ii_deq (by omega) (by omega), ii_deq (by omega) (by omega), decide_eq_false q1, decide_eq_false q3]; rfl
          rw [if_neg (by omega)]
          simp (disch := omega) only [↓nm_v, ↓tg, ↓rA, ↓chk_if, ↓reduceIte, inb_ii, ii_nat, ii_add, and_self, bi_zb, if_bi, if_bi1, ii_leT, ii_leF, ii_ltT, ii_ltF, ii_eqF, ii_m1F, ↓cb_2 hC, ↓cb_1 hC, ↓cb_3 hC, ↓cb_4 hC, ↓cb_5 hC, ↓cb_6 hC, ↓cb_7 hC, ↓cb_10 hC, ↓cb_17 hC, ↓cb_18 hC, ↓cb_19 hC, ↓cb_20 hC, ↓cb_21 hC, ↓cb_22 hC, ↓cb_23 hC, ↓cb_8 hC, ↓cb_9 hC, ↓cb_24 hC, ↓cb_16 hC, ↓cb29_0 hC, ↓cb29_1 hC, ↓sb_0 hS, ↓sb1_0 hS, ↓sb1_1 hS, ↓sb1_2 hS, ↓sb_1 hS, ↓sb_2 hS, ↓sb_3 hS, ↓sb_4 hS, ↓sb_5 hS, ↓sb_6 hS, ↓sb_7 hS, hC, hS, hG, ↓bn_of (c_isAt hS hG hn hl (ii a)), t1, Bool.false_eq_true]
    · show llS A B W a b l x ≤ 1000000
      unfold llS
      split <;> omega
  · intro q x _
    show fX0_laneLong_b7 nf T N I R (q + 1) c (ii a) (ii b) (ii x) (ii n) = _
    rw [fX0_laneLong_b7]
    simp (disch := omega) only [↓nm_v, ↓tg, ↓rA, ↓chk_if, ↓reduceIte, inb_ii, ii_nat, ii_add, and_self, bi_zb, if_bi, if_bi1, ii_leT, ii_leF, ii_ltT, ii_ltF, ii_eqF, ii_m1F, ↓cb_2 hC, ↓cb_1 hC, ↓cb_3 hC, ↓cb_4 hC, ↓cb_5 hC, ↓cb_6 hC, ↓cb_7 hC, ↓cb_10 hC, ↓cb_17 hC, ↓cb_18 hC, ↓cb_19 hC, ↓cb_20 hC, ↓cb_21 hC, ↓cb_22 hC, ↓cb_23 hC, ↓cb_8 hC, ↓cb_9 hC, ↓cb_24 hC, ↓cb_16 hC, ↓cb29_0 hC, ↓cb29_1 hC, ↓sb_0 hS, ↓sb1_0 hS, ↓sb1_1 hS, ↓sb1_2 hS, ↓sb_1 hS, ↓sb_2 hS, ↓sb_3 hS, ↓sb_4 hS, ↓sb_5 hS, ↓sb_6 hS, ↓sb_7 hS, hC, hS, hG]
theorem m_laneBetween (hM : MSh m T N R) (hG : GrM I m n A B W) (hP : GrP n A B W) (hnf : 70 < nf) {a b : Nat} (ha : a < 8) (hb : b < 8) : fX5_laneBetween nf T N I R m (ii a) (ii b) = some (ii (ll 100000000 A B W n a b)) := by
  obtain ⟨hn, hA, hB, hne, hW⟩ := hP
  unfold fX5_laneBetween
  refine loop_up (fun q x l => fX5_laneBetween_b7 nf T N I R q m (ii a) (ii b) (ii x) (ii l)) (llS A B W a b) (fun _ x => x ≤ 100000000) n (fun x => some (ii x)) ?_ ?_ n 0 100000000 nf (by omega) (by omega) (by omega)
  · intro q x l hl hx
    have a1 := hA l hl
    have a2 := hB l hl
    have a3 := hne l hl
    have a4 := hW l hl
    refine ⟨?_, ?_⟩
    · show fX5_laneBetween_b7 nf T N I R (q + 1) m (ii a) (ii b) (ii x) (ii l) = fX5_laneBetween_b7 nf T N I R q m (ii a) (ii b) (ii (llS A B W a b l x)) (ii (l + 1))
      rw [fX5_laneBetween_b7]
      have t1 : ∀ y, y < 8 → atE A B l (ii y) = decide (A l = y ∨ B l = y) := by
        intro y hy
        unfold atE
        rw [ii_deq (by omega) (by omega), ii_deq (by omega) (by omega)]
        by_cases h1 : A l = y <;> by_cases h2 : B l = y <;> simp [h1, h2]
      have ta := t1 a ha
      have tb := t1 b hb
      unfold llS
      by_cases q1 : (A l = a ∧ B l = b) ∨ (A l = b ∧ B l = a)
      · rw [if_pos q1]
        rw [decide_eq_true (show A l = a ∨ B l = a by omega)] at ta
        rw [decide_eq_true (show A l = b ∨ B l = b by omega)] at tb
        have hab : a ≠ b := by omega
        by_cases q2 : x ≤ W l
        · rw [show min (W l) x = x by omega]
          simp (disch := omega) only [↓nm_v, ↓tg, ↓rA, ↓chk_if, ↓reduceIte, inb_ii, ii_nat, ii_add, and_self, bi_zb, if_bi, if_bi1, ii_leT, ii_leF, ii_ltT, ii_ltF, ii_eqF, ii_m1F, ↓mb_2 hM, ↓mb_3 hM, ↓mb_4 hM, ↓mb_5 hM, ↓mb_6 hM, ↓mb_7 hM, ↓mb_9 hM, ↓mb_10 hM, ↓mb_12 hM, ↓mb_22 hM, ↓mb_24 hM, ↓mb_25 hM, ↓mb_27 hM, ↓mb_28 hM, ↓mb_31 hM, ↓mb_32 hM, ↓mb_33 hM, ↓mb_35 hM, ↓mb_36 hM, ↓mb_37 hM, ↓mb_41 hM, ↓mb_42 hM, ↓mb_43 hM, ↓mb_44 hM, ↓mb_45 hM, ↓mb_46 hM, ↓mb_47 hM, ↓mb_48 hM, ↓mb_49 hM, ↓mb_55 hM, hM, fX5_laneBetween_b48, hG, ↓bn_of (m_ends hM hG hn hl (ii a)), ↓bn_of (m_ends hM hG hn hl (ii b)), ta, tb]
        · rw [show min (W l) x = W l by omega]
          simp (disch := omega) only [↓nm_v, ↓tg, ↓rA, ↓chk_if, ↓reduceIte, inb_ii, ii_nat, ii_add, and_self, bi_zb, if_bi, if_bi1, ii_leT, ii_leF, ii_ltT, ii_ltF, ii_eqF, ii_m1F, ↓mb_2 hM, ↓mb_3 hM, ↓mb_4 hM, ↓mb_5 hM, ↓mb_6 hM, ↓mb_7 hM, ↓mb_9 hM, ↓mb_10 hM, ↓mb_12 hM, ↓mb_22 hM, ↓mb_24 hM, ↓mb_25 hM, ↓mb_27 hM, ↓mb_28 hM, ↓mb_31 hM, ↓mb_32 hM, ↓mb_33 hM, ↓mb_35 hM, ↓mb_36 hM, ↓mb_37 hM, ↓mb_41 hM, ↓mb_42 hM, ↓mb_43 hM, ↓mb_44 hM, ↓mb_45 hM, ↓mb_46 hM, ↓mb_47 hM, ↓mb_48 hM, ↓mb_49 hM, ↓mb_55 hM, hM, fX5_laneBetween_b48, hG, ↓bn_of (m_ends hM hG hn hl (ii a)), ↓bn_of (m_ends hM hG hn hl (ii b)), ta, tb]
      · rw [if_neg q1]
        by_cases q2 : A l = a ∨ B l = a
        · rw [decide_eq_true q2] at ta
          by_cases q3 : A l = b ∨ B l = b
          · rw [decide_eq_true q3] at tb
            have hab : a = b := by omega
            subst hab
            simp (disch := omega) only [↓nm_v, ↓tg, ↓rA, ↓chk_if, ↓reduceIte, inb_ii, ii_nat, ii_add, and_self, bi_zb, if_bi, if_bi1, ii_leT, ii_leF, ii_ltT, ii_ltF, ii_eqF, ii_m1F, ↓mb_2 hM, ↓mb_3 hM, ↓mb_4 hM, ↓mb_5 hM, ↓mb_6 hM, ↓mb_7 hM, ↓mb_9 hM, ↓mb_10 hM, ↓mb_12 hM, ↓mb_22 hM, ↓mb_24 hM, ↓mb_25 hM, ↓mb_27 hM, ↓mb_28 hM, ↓mb_31 hM, ↓mb_32 hM, ↓mb_33 hM, ↓mb_35 hM, ↓mb_36 hM, ↓mb_37 hM, ↓mb_41 hM, ↓mb_42 hM, ↓mb_43 hM, ↓mb_44 hM, ↓mb_45 hM, ↓mb_46 hM, ↓mb_47 hM, ↓mb_48 hM, ↓mb_49 hM, ↓mb_55 hM, hM, fX5_laneBetween_b48, hG, ↓bn_of (m_ends hM hG hn hl (ii a)), ta]
          · rw [decide_eq_false q3] at tb
            simp (disch := omega) only [↓nm_v, ↓tg, ↓rA, ↓chk_if, ↓reduceIte, inb_ii, ii_nat, ii_add, and_self, bi_zb, if_bi, if_bi1, ii_leT, ii_leF, ii_ltT, ii_ltF, ii_eqF, ii_m1F, ↓mb_2 hM, ↓mb_3 hM, ↓mb_4 hM, ↓mb_5 hM, ↓mb_6 hM, ↓mb_7 hM, ↓mb_9 hM, ↓mb_10 hM, ↓mb_12 hM, ↓mb_22 hM, ↓mb_24 hM, ↓mb_25 hM, ↓mb_27 hM, ↓mb_28 hM, ↓mb_31 hM, ↓mb_32 hM, ↓mb_33 hM, ↓mb_35 hM, ↓mb_36 hM, ↓mb_37 hM, ↓mb_41 hM, ↓mb_42 hM, ↓mb_43 hM, ↓mb_44 hM, ↓mb_45 hM, ↓mb_46 hM, ↓mb_47 hM, ↓mb_48 hM, ↓mb_49 hM, ↓mb_55 hM, hM, fX5_laneBetween_b48, hG, ↓bn_of (m_ends hM hG hn hl (ii a)), ↓bn_of (m_ends hM hG hn hl (ii b)), ta, tb, Bool.false_eq_true]
        · rw [decide_eq_false q2] at ta
          simp (disch := omega) only [↓nm_v, ↓tg, ↓rA, ↓chk_if, ↓reduceIte, inb_ii, ii_nat, ii_add, and_self, bi_zb, if_bi, if_bi1, ii_leT, ii_leF, ii_ltT, ii_ltF, ii_eqF, ii_m1F, ↓mb_2 hM, ↓mb_3 hM, ↓mb_4 hM, ↓mb_5 hM, ↓mb_6 hM, ↓mb_7 hM, ↓mb_9 hM, ↓mb_10 hM, ↓mb_12 hM, ↓mb_22 hM, ↓mb_24 hM, ↓mb_25 hM, ↓mb_27 hM, ↓mb_28 hM, ↓mb_31 hM, ↓mb_32 hM, ↓mb_33 hM, ↓mb_35 hM, ↓mb_36 hM, ↓mb_37 hM, ↓mb_41 hM, ↓mb_42 hM, ↓mb_43 hM, ↓mb_44 hM, ↓mb_45 hM, ↓mb_46 hM, ↓mb_47 hM, ↓mb_48 hM, ↓mb_49 hM, ↓mb_55 hM, hM, fX5_laneBetween_b48, hG, ↓bn_of (m_ends hM hG hn hl (ii a)), ta, Bool.false_eq_true]
    · show llS A B W a b l x ≤ 100000000
      unfold llS
      split <;> omega
  · intro q x _
    show fX5_laneBetween_b7 nf T N I R (q + 1) m (ii a) (ii b) (ii x) (ii n) = _
    rw [fX5_laneBetween_b7]
    simp (disch := omega) only [↓nm_v, ↓tg, ↓rA, ↓chk_if, ↓reduceIte, inb_ii, ii_nat, ii_add, and_self, bi_zb, if_bi, if_bi1, ii_leT, ii_leF, ii_ltT, ii_ltF, ii_eqF, ii_m1F, ↓mb_2 hM, ↓mb_3 hM, ↓mb_4 hM, ↓mb_5 hM, ↓mb_6 hM, ↓mb_7 hM, ↓mb_9 hM, ↓mb_10 hM, ↓mb_12 hM, ↓mb_22 hM, ↓mb_24 hM, ↓mb_25 hM, ↓mb_27 hM, ↓mb_28 hM, ↓mb_31 hM, ↓mb_32 hM, ↓mb_33 hM, ↓mb_35 hM, ↓mb_36 hM, ↓mb_37 hM, ↓mb_41 hM, ↓mb_42 hM, ↓mb_43 hM, ↓mb_44 hM, ↓mb_45 hM, ↓mb_46 hM, ↓mb_47 hM, ↓mb_48 hM, ↓mb_49 hM, ↓mb_55 hM, hM, hG]
theorem c_nearerEnd (hC : CSh c s T N R) (hS : StSh s T N R) (hG : GrC I s n A B W) (hP : GrP n A B W) (hx : arN 64 (I (c + 34)) D) (hD : ∀ j, j < 64 → D j ≤ 1000000) {f l : Nat} (hf : f < 8) (hl : l < n) : fX0_nearerEnd T N I R c (ii f) (ii l) = some (ii (neN D A B f l)) := by
  have hn := hP.1
  have a1 := hP.2.1 l hl
  have a2 := hP.2.2.1 l hl
  have a3 := hP.2.2.2.1 l hl
  have d1 := hD (8 * f + A l) (by omega)
  have d2 := hD (8 * f + B l) (by omega)
  unfold fX0_nearerEnd neN
  by_cases q : A l < B l
  · by_cases q2 : D (8 * f + A l) ≤ D (8 * f + B l)
    · simp (disch := omega) only [↓nm_v, ↓tg, ↓rA, ↓chk_if, ↓reduceIte, inb_ii, ii_nat, ii_add, and_self, bi_zb, if_bi, if_bi1, ii_leT, ii_leF, ii_ltT, ii_ltF, ii_eqF, ii_m1F, ↓cb_2 hC, ↓cb_1 hC, ↓cb_3 hC, ↓cb_4 hC, ↓cb_5 hC, ↓cb_6 hC, ↓cb_7 hC, ↓cb_10 hC, ↓cb_17 hC, ↓cb_18 hC, ↓cb_19 hC, ↓cb_20 hC, ↓cb_21 hC, ↓cb_22 hC, ↓cb_23 hC, ↓cb_8 hC, ↓cb_9 hC, ↓cb_24 hC, ↓cb_16 hC, ↓cb29_0 hC, ↓cb29_1 hC, ↓sb_0 hS, ↓sb1_0 hS, ↓sb1_1 hS, ↓sb1_2 hS, ↓sb_1 hS, ↓sb_2 hS, ↓sb_3 hS, ↓sb_4 hS, ↓sb_5 hS, ↓sb_6 hS, ↓sb_7 hS, hC, hS, hG, ↓bn_of (c_farOf hC hS hx hf a1), ↓bn_of (c_farOf hC hS hx hf a2), q]
      (repeat' split) <;> first | rfl | (congr 2; omega) | omega
    · simp (disch := omega) only [↓nm_v, ↓tg, ↓rA, ↓chk_if, ↓reduceIte, inb_ii, ii_nat, ii_add, and_self, bi_zb, if_bi, if_bi1, ii_leT, ii_leF, ii_ltT, ii_ltF, ii_eqF, ii_m1F, ↓cb_2 hC, ↓cb_1 hC, ↓cb_3 hC, ↓cb_4 hC, ↓cb_5 hC, ↓cb_6 hC, ↓cb_7 hC, ↓cb_10 hC, ↓cb_17 hC, ↓cb_18 hC, ↓cb_19 hC, ↓cb_20 hC, ↓cb_21 hC, ↓cb_22 hC, ↓cb_23 hC, ↓cb_8 hC, ↓cb_9 hC, ↓cb_24 hC, ↓cb_16 hC, ↓cb29_0 hC, ↓cb29_1 hC, ↓sb_0 hS, ↓sb1_0 hS, ↓sb1_1 hS, ↓sb1_2 hS, ↓sb_1 hS, ↓sb_2 hS, ↓sb_3 hS, ↓sb_4 hS, ↓sb_5 hS, ↓sb_6 hS, ↓sb_7 hS, hC, hS, hG, ↓bn_of (c_farOf hC hS hx hf a1), ↓bn_of (c_farOf hC hS hx hf a2), q]
      (repeat' split) <;> first | rfl | (congr 2; omega) | omega
  · by_cases q2 : D (8 * f + B l) ≤ D (8 * f + A l)
    · simp (disch := omega) only [↓nm_v, ↓tg, ↓rA, ↓chk_if, ↓reduceIte, inb_ii, ii_nat, ii_add, and_self, bi_zb, if_bi, if_bi1, ii_leT, ii_leF, ii_ltT, ii_ltF, ii_eqF, ii_m1F, ↓cb_2 hC, ↓cb_1 hC, ↓cb_3 hC, ↓cb_4 hC, ↓cb_5 hC, ↓cb_6 hC, ↓cb_7 hC, ↓cb_10 hC, ↓cb_17 hC, ↓cb_18 hC, ↓cb_19 hC, ↓cb_20 hC, ↓cb_21 hC, ↓cb_22 hC, ↓cb_23 hC, ↓cb_8 hC, ↓cb_9 hC, ↓cb_24 hC, ↓cb_16 hC, ↓cb29_0 hC, ↓cb29_1 hC, ↓sb_0 hS, ↓sb1_0 hS, ↓sb1_1 hS, ↓sb1_2 hS, ↓sb_1 hS, ↓sb_2 hS, ↓sb_3 hS, ↓sb_4 hS, ↓sb_5 hS, ↓sb_6 hS, ↓sb_7 hS, hC, hS, hG, ↓bn_of (c_farOf hC hS hx hf a1), ↓bn_of (c_farOf hC hS hx hf a2)]
      (repeat' split) <;> first | rfl | (congr 2; omega) | omega
    · simp (disch := omega) only [↓nm_v, ↓tg, ↓rA, ↓chk_if, ↓reduceIte, inb_ii, ii_nat, ii_add, and_self, bi_zb, if_bi, if_bi1, ii_leT, ii_leF, ii_ltT, ii_ltF, ii_eqF, ii_m1F, ↓cb_2 hC, ↓cb_1 hC, ↓cb_3 hC, ↓cb_4 hC, ↓cb_5 hC, ↓cb_6 hC, ↓cb_7 hC, ↓cb_10 hC, ↓cb_17 hC, ↓cb_18 hC, ↓cb_19 hC, ↓cb_20 hC, ↓cb_21 hC, ↓cb_22 hC, ↓cb_23 hC, ↓cb_8 hC, ↓cb_9 hC, ↓cb_24 hC, ↓cb_16 hC, ↓cb29_0 hC, ↓cb29_1 hC, ↓sb_0 hS, ↓sb1_0 hS, ↓sb1_1 hS, ↓sb1_2 hS, ↓sb_1 hS, ↓sb_2 hS, ↓sb_3 hS, ↓sb_4 hS, ↓sb_5 hS, ↓sb_6 hS, ↓sb_7 hS, hC, hS, hG, ↓bn_of (c_farOf hC hS hx hf a1), ↓bn_of (c_farOf hC hS hx hf a2)]
      (repeat' split) <;> first | rfl | (congr 2; omega) | omega
theorem m_nearEnd (hM : MSh m T N R) (hG : GrM I m n A B W) (hP : GrP n A B W) (hx : arN 64 (I (m + 22)) D) (hD : ∀ j, j < 64 → D j ≤ 100000000) {f l : Nat} (hf : f < 8) (hl : l < n) : fX5_nearEnd T N I R m (ii f) (ii l) = some (ii (neN D A B f l)) := by
  have hn := hP.1
  have a1 := hP.2.1 l hl
  have a2 := hP.2.2.1 l hl
  have a3 := hP.2.2.2.1 l hl
  have d1 := hD (8 * f + A l) (by omega)
  have d2 := hD (8 * f + B l) (by omega)
  unfold fX5_nearEnd neN
  have es : (ii (D (8 * f + A l)) - ii (D (8 * f + B l))).toInt = (D (8 * f + A l) : Int) - (D (8 * f + B l) : Int) := by
    rw [Int32.toInt_sub, ii_toInt (by omega), ii_toInt (by omega)]
    apply Int.bmod_eq_of_le <;> omega
  rcases Nat.lt_trichotomy (D (8 * f + A l)) (D (8 * f + B l)) with q | q | q
  · have e : (ii (D (8 * f + A l)) - ii (D (8 * f + B l)) < ii 0) = True := by
      rw [lt_int, es, ii_0]
      exact eq_true (by omega)
    rw [if_pos q]
    simp (disch := omega) only [↓nm_v, ↓tg, ↓rA, ↓chk_if, ↓reduceIte, inb_ii, ii_nat, ii_add, and_self, bi_zb, if_bi, if_bi1, ii_leT, ii_leF, ii_ltT, ii_ltF, ii_eqF, ii_m1F, ↓mb_2 hM, ↓mb_3 hM, ↓mb_4 hM, ↓mb_5 hM, ↓mb_6 hM, ↓mb_7 hM, ↓mb_9 hM, ↓mb_10 hM, ↓mb_12 hM, ↓mb_22 hM, ↓mb_24 hM, ↓mb_25 hM, ↓mb_27 hM, ↓mb_28 hM, ↓mb_31 hM, ↓mb_32 hM, ↓mb_33 hM, ↓mb_35 hM, ↓mb_36 hM, ↓mb_37 hM, ↓mb_41 hM, ↓mb_42 hM, ↓mb_43 hM, ↓mb_44 hM, ↓mb_45 hM, ↓mb_46 hM, ↓mb_47 hM, ↓mb_48 hM, ↓mb_49 hM, ↓mb_55 hM, hM, hG, ↓bn_of (m_farOf hM hx hD hf a1), ↓bn_of (m_farOf hM hx hD hf a2), e]
  · rw [if_neg (by omega), if_pos q]
    have e : (ii (D (8 * f + A l)) - ii (D (8 * f + B l)) < ii 0) = False := by
      rw [lt_int, es, ii_0]
      exact eq_false (by omega)
    have e2 : ii (D (8 * f + A l)) - ii (D (8 * f + B l)) = ii 0 := by
      rw [← Int32.toInt_inj, es, ii_0]
      omega
    by_cases q2 : B l ≤ A l
    · rw [show min (A l) (B l) = B l by omega]
      simp (disch := omega) only [↓nm_v, ↓tg, ↓rA, ↓chk_if, ↓reduceIte, inb_ii, ii_nat, ii_add, and_self, bi_zb, if_bi, if_bi1, ii_leT, ii_leF, ii_ltT, ii_ltF, ii_eqF, ii_m1F, ↓mb_2 hM, ↓mb_3 hM, ↓mb_4 hM, ↓mb_5 hM, ↓mb_6 hM, ↓mb_7 hM, ↓mb_9 hM, ↓mb_10 hM, ↓mb_12 hM, ↓mb_22 hM, ↓mb_24 hM, ↓mb_25 hM, ↓mb_27 hM, ↓mb_28 hM, ↓mb_31 hM, ↓mb_32 hM, ↓mb_33 hM, ↓mb_35 hM, ↓mb_36 hM, ↓mb_37 hM, ↓mb_41 hM, ↓mb_42 hM, ↓mb_43 hM, ↓mb_44 hM, ↓mb_45 hM, ↓mb_46 hM, ↓mb_47 hM, ↓mb_48 hM, ↓mb_49 hM, ↓mb_55 hM, hM, hG, ↓bn_of (m_farOf hM hx hD hf a1), ↓bn_of (m_farOf hM hx hD hf a2), e, e2]
    · rw [show min (A l) (B l) = A l by omega]
      simp (disch := omega) only [↓nm_v, ↓tg, ↓rA, ↓chk_if, ↓reduceIte, inb_ii, ii_nat, ii_add, and_self, bi_zb, if_bi, if_bi1, ii_leT, ii_leF, ii_ltT, ii_ltF, ii_eqF, ii_m1F, ↓mb_2 hM, ↓mb_3 hM, ↓mb_4 hM, ↓mb_5 hM, ↓mb_6 hM, ↓mb_7 hM, ↓mb_9 hM, ↓mb_10 hM, ↓mb_12 hM, ↓mb_22 hM, ↓mb_24 hM, ↓mb_25 hM, ↓mb_27 hM, ↓mb_28 hM, ↓mb_31 hM, ↓mb_32 hM, ↓mb_33 hM, ↓mb_35 hM, ↓mb_36 hM, ↓mb_37 hM, ↓mb_41 hM, ↓mb_42 hM, ↓mb_43 hM, ↓mb_44 hM, ↓mb_45 hM, ↓mb_46 hM, ↓mb_47 hM, ↓mb_48 hM, ↓mb_49 hM, ↓mb_55 hM, hM, hG, ↓bn_of (m_farOf hM hx hD hf a1), ↓bn_of (m_farOf hM hx hD hf a2), e, e2]
  · rw [if_neg (by omega), if_neg (by omega)]
    have e : (ii (D (8 * f + A l)) - ii (D (8 * f + B l)) < ii 0) = False := by
      rw [lt_int, es, ii_0]
      exact eq_false (by omega)
    have e2 : (ii (D (8 * f + A l)) - ii (D (8 * f + B l)) = ii 0) = False := by
      rw [← Int32.toInt_inj, es, ii_0]
      exact eq_false (by omega)
    simp (disch := omega) only [↓nm_v, ↓tg, ↓rA, ↓chk_if, ↓reduceIte, inb_ii, ii_nat, ii_add, and_self, bi_zb, if_bi, if_bi1, ii_leT, ii_leF, ii_ltT, ii_ltF, ii_eqF, ii_m1F, ↓mb_2 hM, ↓mb_3 hM, ↓mb_4 hM, ↓mb_5 hM, ↓mb_6 hM, ↓mb_7 hM, ↓mb_9 hM, ↓mb_10 hM, ↓mb_12 hM, ↓mb_22 hM, ↓mb_24 hM, ↓mb_25 hM, ↓mb_27 hM, ↓mb_28 hM, ↓mb_31 hM, ↓mb_32 hM, ↓mb_33 hM, ↓mb_35 hM, ↓mb_36 hM, ↓mb_37 hM, ↓mb_41 hM, ↓mb_42 hM, ↓mb_43 hM, ↓mb_44 hM, ↓mb_45 hM, ↓mb_46 hM, ↓mb_47 hM, ↓mb_48 hM, ↓mb_49 hM, ↓mb_55 hM, hM, hG, ↓bn_of (m_farOf hM hx hD hf a1), ↓bn_of (m_farOf hM hx hD hf a2), e, e2]
theorem c_laneFor (hC : CSh c s T N R) (hS : StSh s T N R) (hG : GrC I s n A B W) (hP : GrP n A B W) (hN : ∀ l, l < n → I (s + 4) l = Nm l) (hx : arN 64 (I (c + 34)) D) (hD : ∀ j, j < 64 → D j ≤ 1000000) (hnf : 70 < nf) {f : Nat} (hf : f < 8) (x : Int32) : fX0_laneFor nf T N I R c (ii f) x = some (lfN 1000000 D A B Nm f x n).1 := by
  have hn := hP.1
  unfold fX0_laneFor
  refine loop_up (fun q (p : Int32 × Nat) l => fX0_laneFor_b10 nf T N I R q c (ii f) x p.1 (ii p.2) (ii l)) (lfS D A B Nm f x) (fun _ p => p.2 ≤ 1000000) n (fun p => some p.1) ?_ ?_ n 0 (-1, 1000000) nf (by omega) (by omega) (by decide)
  · rintro q ⟨b, v⟩ l hl hv
    have hv : v ≤ 1000000 := hv
    have a1 := hP.2.1 l hl
    have a2 := hP.2.2.1 l hl
    have hne := neN_lt (D := D) (f := f) a1 a2
    have d1 := hD (8 * f + neN D A B f l) (by omega)
    have e := hN l hl
    refine ⟨?_, ?_⟩
    · show fX0_laneFor_b10 nf T N I R (q + 1) c (ii f) x b (ii v) (ii l) = fX0_laneFor_b10 nf T N I R q c (ii f) x (lfS D A B Nm f x l (b, v)).1 (ii (lfS D A B Nm f x l (b, v)).2) (ii (l + 1))
      rw [fX0_laneFor_b10]
      unfold lfS
      by_cases q1 : Nm l = x
      · by_cases q2 : D (8 * f + neN D A B f l) < v
        · simp (disch := omega) only [↓nm_v, ↓tg, ↓rA, ↓chk_if, ↓reduceIte, inb_ii, ii_nat, ii_add, and_self, bi_zb, if_bi, if_bi1, ii_leT, ii_leF, ii_ltT, ii_ltF, ii_eqF, ii_m1F, ↓cb_2 hC, ↓cb_1 hC, ↓cb_3 hC, ↓cb_4 hC, ↓cb_5 hC, ↓cb_6 hC, ↓cb_7 hC, ↓cb_10 hC, ↓cb_17 hC, ↓cb_18 hC, ↓cb_19 hC, ↓cb_20 hC, ↓cb_21 hC, ↓cb_22 hC, ↓cb_23 hC, ↓cb_8 hC, ↓cb_9 hC, ↓cb_24 hC, ↓cb_16 hC, ↓cb29_0 hC, ↓cb29_1 hC, ↓sb_0 hS, ↓sb1_0 hS, ↓sb1_1 hS, ↓sb1_2 hS, ↓sb_1 hS, ↓sb_2 hS, ↓sb_3 hS, ↓sb_4 hS, ↓sb_5 hS, ↓sb_6 hS, ↓sb_7 hS, hC, hS, hG, fX0_table, ↓bn_e, e, q1, ↓bn_of (c_nearerEnd hC hS hG hP hx hD hf hl), ↓bn_of (c_farOf hC hS hx hf hne), q2]
        · simp (disch := omega) only [↓nm_v, ↓tg, ↓rA, ↓chk_if, ↓reduceIte, inb_ii, ii_nat, ii_add, and_self, bi_zb, if_bi, if_bi1, ii_leT, ii_leF, ii_ltT, ii_ltF, ii_eqF, ii_m1F, ↓cb_2 hC, ↓cb_1 hC, ↓cb_3 hC, ↓cb_4 hC, ↓cb_5 hC, ↓cb_6 hC, ↓cb_7 hC, ↓cb_10 hC, ↓cb_17 hC, ↓cb_18 hC, ↓cb_19 hC, ↓cb_20 hC, ↓cb_21 hC, ↓cb_22 hC, ↓cb_23 hC, ↓cb_8 hC, ↓cb_9 hC, ↓cb_24 hC, ↓cb_16 hC, ↓cb29_0 hC, ↓cb29_1 hC, ↓sb_0 hS, ↓sb1_0 hS, ↓sb1_1 hS, ↓sb1_2 hS, ↓sb_1 hS, ↓sb_2 hS, ↓sb_3 hS, ↓sb_4 hS, ↓sb_5 hS, ↓sb_6 hS, ↓sb_7 hS, hC, hS, hG, fX0_table, ↓bn_e, e, q1, ↓bn_of (c_nearerEnd hC hS hG hP hx hD hf hl), ↓bn_of (c_farOf hC hS hx hf hne), q2, and_false]
      · simp (disch := omega) only [↓nm_v, ↓tg, ↓rA, ↓chk_if, ↓reduceIte, inb_ii, ii_nat, ii_add, and_self, bi_zb, if_bi, if_bi1, ii_leT, ii_leF, ii_ltT, ii_ltF, ii_eqF, ii_m1F, ↓cb_2 hC, ↓cb_1 hC, ↓cb_3 hC, ↓cb_4 hC, ↓cb_5 hC, ↓cb_6 hC, ↓cb_7 hC, ↓cb_10 hC, ↓cb_17 hC, ↓cb_18 hC, ↓cb_19 hC, ↓cb_20 hC, ↓cb_21 hC, ↓cb_22 hC, ↓cb_23 hC, ↓cb_8 hC, ↓cb_9 hC, ↓cb_24 hC, ↓cb_16 hC, ↓cb29_0 hC, ↓cb29_1 hC, ↓sb_0 hS, ↓sb1_0 hS, ↓sb1_1 hS, ↓sb1_2 hS, ↓sb_1 hS, ↓sb_2 hS, ↓sb_3 hS, ↓sb_4 hS, ↓sb_5 hS, ↓sb_6 hS, ↓sb_7 hS, hC, hS, hG, fX0_table, ↓bn_e, e, q1, false_and]
    · show (lfS D A B Nm f x l (b, v)).2 ≤ 1000000
      unfold lfS
      split
      · exact d1
      · exact hv
  · rintro q ⟨b, v⟩ _
    show fX0_laneFor_b10 nf T N I R (q + 1) c (ii f) x b (ii v) (ii n) = _
    rw [fX0_laneFor_b10]
    simp (disch := omega) only [↓nm_v, ↓tg, ↓rA, ↓chk_if, ↓reduceIte, inb_ii, ii_nat, ii_add, and_self, bi_zb, if_bi, if_bi1, ii_leT, ii_leF, ii_ltT, ii_ltF, ii_eqF, ii_m1F, ↓cb_2 hC, ↓cb_1 hC, ↓cb_3 hC, ↓cb_4 hC, ↓cb_5 hC, ↓cb_6 hC, ↓cb_7 hC, ↓cb_10 hC, ↓cb_17 hC, ↓cb_18 hC, ↓cb_19 hC, ↓cb_20 hC, ↓cb_21 hC, ↓cb_22 hC, ↓cb_23 hC, ↓cb_8 hC, ↓cb_9 hC, ↓cb_24 hC, ↓cb_16 hC, ↓cb29_0 hC, ↓cb29_1 hC, ↓sb_0 hS, ↓sb1_0 hS, ↓sb1_1 hS, ↓sb1_2 hS, ↓sb_1 hS, ↓sb_2 hS, ↓sb_3 hS, ↓sb_4 hS, ↓sb_5 hS, ↓sb_6 hS, ↓sb_7 hS, hC, hS, hG]
/-- the walk of the component -/
theorem c_walk (hC : CSh c s T N R) (hS : StSh s T N R) (hG : GrC I s n A B W) (hP : GrP n A B W) (hx : arN 64 (I (c + 34)) (fwA 1000000 A B W n)) (hnf : 70 < nf) {t i : Nat} (ht : t < 8) (hi : i < 2147483648) : ∀ (M a k q : Nat), a < 8 → fwA 1000000 A B W n (8 * a + t) ≤ M → M ≤ 3000 → M < q → k + M ≤ 6000 →
    fX0_letter_b80 nf T N R q I c (ii i) (ii t) (ii a) (ii k) = some (wkN A B W n t i M a k, I) := by
  have hn := hP.1
  have hD := fw_le64 (fwK 1000000 hP).1
  intro M
  induction M with
  | zero =>
    intro a k q ha hd _ hq hk
    obtain ⟨q, rfl⟩ : ∃ q', q = q' + 1 := ⟨q - 1, by omega⟩
    rw [fX0_letter_b80]
    unfold wkN
    by_cases h : i < k
    · simp (disch := omega) only [↓nm_v, ↓tg, ↓rA, ↓chk_if, ↓reduceIte, inb_ii, ii_nat, ii_add, and_self, bi_zb, if_bi, if_bi1, ii_leT, ii_leF, ii_ltT, ii_ltF, ii_eqF, ii_m1F, ↓cb_2 hC, ↓cb_1 hC, ↓cb_3 hC, ↓cb_4 hC, ↓cb_5 hC, ↓cb_6 hC, ↓cb_7 hC, ↓cb_10 hC, ↓cb_17 hC, ↓cb_18 hC, ↓cb_19 hC, ↓cb_20 hC, ↓cb_21 hC, ↓cb_22 hC, ↓cb_23 hC, ↓cb_8 hC, ↓cb_9 hC, ↓cb_24 hC, ↓cb_16 hC, ↓cb29_0 hC, ↓cb29_1 hC, ↓sb_0 hS, ↓sb1_0 hS, ↓sb1_1 hS, ↓sb1_2 hS, ↓sb_1 hS, ↓sb_2 hS, ↓sb_3 hS, ↓sb_4 hS, ↓sb_5 hS, ↓sb_6 hS, ↓sb_7 hS, hC, hS, h]
    · by_cases h2 : a = t
      · simp (disch := omega) only [↓nm_v, ↓tg, ↓rA, ↓chk_if, ↓reduceIte, inb_ii, ii_nat, ii_add, and_self, bi_zb, if_bi, if_bi1, ii_leT, ii_leF, ii_ltT, ii_ltF, ii_eqF, ii_m1F, ↓cb_2 hC, ↓cb_1 hC, ↓cb_3 hC, ↓cb_4 hC, ↓cb_5 hC, ↓cb_6 hC, ↓cb_7 hC, ↓cb_10 hC, ↓cb_17 hC, ↓cb_18 hC, ↓cb_19 hC, ↓cb_20 hC, ↓cb_21 hC, ↓cb_22 hC, ↓cb_23 hC, ↓cb_8 hC, ↓cb_9 hC, ↓cb_24 hC, ↓cb_16 hC, ↓cb29_0 hC, ↓cb29_1 hC, ↓sb_0 hS, ↓sb1_0 hS, ↓sb1_1 hS, ↓sb1_2 hS, ↓sb_1 hS, ↓sb_2 hS, ↓sb_3 hS, ↓sb_4 hS, ↓sb_5 hS, ↓sb_6 hS, ↓sb_7 hS, hC, hS, h, h2]
      · have := nx_ok hP ha ht h2 (by omega)
        omega
  | succ M ih =>
    intro a k q ha hd hM hq hk
    obtain ⟨q, rfl⟩ : ∃ q', q = q' + 1 := ⟨q - 1, by omega⟩
    rw [fX0_letter_b80]
    unfold wkN
    by_cases h : i < k
    · simp (disch := omega) only [↓nm_v, ↓tg, ↓rA, ↓chk_if, ↓reduceIte, inb_ii, ii_nat, ii_add, and_self, bi_zb, if_bi, if_bi1, ii_leT, ii_leF, ii_ltT, ii_ltF, ii_eqF, ii_m1F, ↓cb_2 hC, ↓cb_1 hC, ↓cb_3 hC, ↓cb_4 hC, ↓cb_5 hC, ↓cb_6 hC, ↓cb_7 hC, ↓cb_10 hC, ↓cb_17 hC, ↓cb_18 hC, ↓cb_19 hC, ↓cb_20 hC, ↓cb_21 hC, ↓cb_22 hC, ↓cb_23 hC, ↓cb_8 hC, ↓cb_9 hC, ↓cb_24 hC, ↓cb_16 hC, ↓cb29_0 hC, ↓cb29_1 hC, ↓sb_0 hS, ↓sb1_0 hS, ↓sb1_1 hS, ↓sb1_2 hS, ↓sb_1 hS, ↓sb_2 hS, ↓sb_3 hS, ↓sb_4 hS, ↓sb_5 hS, ↓sb_6 hS, ↓sb_7 hS, hC, hS, h]
    · by_cases h2 : a = t
      · simp (disch := omega) only [↓nm_v, ↓tg, ↓rA, ↓chk_if, ↓reduceIte, inb_ii, ii_nat, ii_add, and_self, bi_zb, if_bi, if_bi1, ii_leT, ii_leF, ii_ltT, ii_ltF, ii_eqF, ii_m1F, ↓cb_2 hC, ↓cb_1 hC, ↓cb_3 hC, ↓cb_4 hC, ↓cb_5 hC, ↓cb_6 hC, ↓cb_7 hC, ↓cb_10 hC, ↓cb_17 hC, ↓cb_18 hC, ↓cb_19 hC, ↓cb_20 hC, ↓cb_21 hC, ↓cb_22 hC, ↓cb_23 hC, ↓cb_8 hC, ↓cb_9 hC, ↓cb_24 hC, ↓cb_16 hC, ↓cb29_0 hC, ↓cb29_1 hC, ↓sb_0 hS, ↓sb1_0 hS, ↓sb1_1 hS, ↓sb1_2 hS, ↓sb_1 hS, ↓sb_2 hS, ↓sb_3 hS, ↓sb_4 hS, ↓sb_5 hS, ↓sb_6 hS, ↓sb_7 hS, hC, hS, h, h2]
      · obtain ⟨n1, n2, n3⟩ := nx_ok hP ha ht h2 (by omega)
        simp (disch := omega) only [↓nm_v, ↓tg, ↓rA, ↓chk_if, ↓reduceIte, inb_ii, ii_nat, ii_add, and_self, bi_zb, if_bi, if_bi1, ii_leT, ii_leF, ii_ltT, ii_ltF, ii_eqF, ii_m1F, ↓cb_2 hC, ↓cb_1 hC, ↓cb_3 hC, ↓cb_4 hC, ↓cb_5 hC, ↓cb_6 hC, ↓cb_7 hC, ↓cb_10 hC, ↓cb_17 hC, ↓cb_18 hC, ↓cb_19 hC, ↓cb_20 hC, ↓cb_21 hC, ↓cb_22 hC, ↓cb_23 hC, ↓cb_8 hC, ↓cb_9 hC, ↓cb_24 hC, ↓cb_16 hC, ↓cb29_0 hC, ↓cb29_1 hC, ↓sb_0 hS, ↓sb1_0 hS, ↓sb1_1 hS, ↓sb1_2 hS, ↓sb_1 hS, ↓sb_2 hS, ↓sb_3 hS, ↓sb_4 hS, ↓sb_5 hS, ↓sb_6 hS, ↓sb_7 hS, hC, hS, h, h2]
        rw [← ih (nxN A B W n a t) (k + 1) q n1 (by omega) (by omega) (by omega) (by omega)]
        have hd1 := hD (8 * a + t) (by omega)
        have key : ∀ d l r, l + d = 8 → d ≤ r → fnd (onP A B W n a t) d l < 8 → fX0_letter_b98 nf (fX0_letter_b80 nf T N R q) T N R r I c (ii i) (ii t) (ii a) (ii k) (ii l) = fX0_letter_b80 nf T N R q I c (ii i) (ii t) (ii (fnd (onP A B W n a t) d l)) (ii (k + 1)) := by
          intro d
          induction d with
          | zero =>
            intro l r hl _ hf
            have : fnd (onP A B W n a t) 0 l = l := rfl
            omega
          | succ d ihd =>
            intro l r hl hr hf
            obtain ⟨r, rfl⟩ : ∃ r', r = r' + 1 := ⟨r - 1, by omega⟩
            have hl8 : l < 8 := by omega
            have hll := ll_le 1000000 A B W n a l
            have hdl := hD (8 * l + t) (by omega)
            rw [fX0_letter_b98]
            unfold fnd at hf ⊢
            by_cases p : onP A B W n a t l = true
            · have p' : ll 1000000 A B W n a l + fwA 1000000 A B W n (8 * l + t) = fwA 1000000 A B W n (8 * a + t) := of_decide_eq_true p
              rw [if_pos p]
              simp (disch := omega) only [↓nm_v, ↓tg, ↓rA, ↓chk_if, ↓reduceIte, inb_ii, ii_nat, ii_add, and_self, bi_zb, if_bi, if_bi1, ii_leT, ii_leF, ii_ltT, ii_ltF, ii_eqF, ii_m1F, ↓cb_2 hC, ↓cb_1 hC, ↓cb_3 hC, ↓cb_4 hC, ↓cb_5 hC, ↓cb_6 hC, ↓cb_7 hC, ↓cb_10 hC, ↓cb_17 hC, ↓cb_18 hC, ↓cb_19 hC, ↓cb_20 hC, ↓cb_21 hC, ↓cb_22 hC, ↓cb_23 hC, ↓cb_8 hC, ↓cb_9 hC, ↓cb_24 hC, ↓cb_16 hC, ↓cb29_0 hC, ↓cb29_1 hC, ↓sb_0 hS, ↓sb1_0 hS, ↓sb1_1 hS, ↓sb1_2 hS, ↓sb_1 hS, ↓sb_2 hS, ↓sb_3 hS, ↓sb_4 hS, ↓sb_5 hS, ↓sb_6 hS, ↓sb_7 hS, hC, hS, ↓bn_of (c_laneLong hC hS hG hP hnf ha hl8), ↓bn_of (c_farOf hC hS hx hl8 ht), ↓bn_of (c_farOf hC hS hx ha ht), p']
            · have p' : ¬ ll 1000000 A B W n a l + fwA 1000000 A B W n (8 * l + t) = fwA 1000000 A B W n (8 * a + t) := fun e => p (decide_eq_true e)
              rw [if_neg p] at hf ⊢
              simp (disch := omega) only [↓nm_v, ↓tg, ↓rA, ↓chk_if, ↓reduceIte, inb_ii, ii_nat, ii_add, and_self, bi_zb, if_bi, if_bi1, ii_leT, ii_leF, ii_ltT, ii_ltF, ii_eqF, ii_m1F, ↓cb_2 hC, ↓cb_1 hC, ↓cb_3 hC, ↓cb_4 hC, ↓cb_5 hC, ↓cb_6 hC, ↓cb_7 hC, ↓cb_10 hC, ↓cb_17 hC, ↓cb_18 hC, ↓cb_19 hC, ↓cb_20 hC, ↓cb_21 hC, ↓cb_22 hC, ↓cb_23 hC, ↓cb_8 hC, ↓cb_9 hC, ↓cb_24 hC, ↓cb_16 hC, ↓cb29_0 hC, ↓cb29_1 hC, ↓sb_0 hS, ↓sb1_0 hS, ↓sb1_1 hS, ↓sb1_2 hS, ↓sb_1 hS, ↓sb_2 hS, ↓sb_3 hS, ↓sb_4 hS, ↓sb_5 hS, ↓sb_6 hS, ↓sb_7 hS, hC, hS, ↓bn_of (c_laneLong hC hS hG hP hnf ha hl8), ↓bn_of (c_farOf hC hS hx hl8 ht), ↓bn_of (c_farOf hC hS hx ha ht)]
              exact ihd (l + 1) r (by omega) (by omega) hf
        exact key 8 0 nf (by omega) (by omega) n1
/-- the walk of the model -/
theorem m_walk (hM : MSh m T N R) (hG : GrM I m n A B W) (hP : GrP n A B W) (hx : arN 64 (I (m + 22)) (fwA 100000000 A B W n)) (hnf : 70 < nf) {t i : Nat} (ht : t < 8) (hi : i < 2147483648) : ∀ (M a k q : Nat), a < 8 → fwA 1000000 A B W n (8 * a + t) ≤ M → M ≤ 3000 → M < q → k + M ≤ 6000 →
    fX5_letter_b169 nf T N R q I m (ii i) (ii t) (ii a) (ii k) = some (wkN A B W n t i M a k, I) := by
  have hn := hP.1
  have hD := fw_le64 (fwK 100000000 hP).1
  have h2' := fw_two (F := 1000000) (G := 100000000) (by omega) (by omega) hP.2.1 hP.2.2.1 hP.2.2.2.1 hP.2.2.2.2
  intro M
  induction M with
  | zero =>
    intro a k q ha hd _ hq hk
    obtain ⟨q, rfl⟩ : ∃ q', q = q' + 1 := ⟨q - 1, by omega⟩
    rw [fX5_letter_b169]
    unfold wkN
    by_cases h : i < k
    · simp (disch := omega) only [↓nm_v, ↓tg, ↓rA, ↓chk_if, ↓reduceIte, inb_ii, ii_nat, ii_add, and_self, bi_zb, if_bi, if_bi1, ii_leT, ii_leF, ii_ltT, ii_ltF, ii_eqF, ii_m1F, ↓mb_2 hM, ↓mb_3 hM, ↓mb_4 hM, ↓mb_5 hM, ↓mb_6 hM, ↓mb_7 hM, ↓mb_9 hM, ↓mb_10 hM, ↓mb_12 hM, ↓mb_22 hM, ↓mb_24 hM, ↓mb_25 hM, ↓mb_27 hM, ↓mb_28 hM, ↓mb_31 hM, ↓mb_32 hM, ↓mb_33 hM, ↓mb_35 hM, ↓mb_36 hM, ↓mb_37 hM, ↓mb_41 hM, ↓mb_42 hM, ↓mb_43 hM, ↓mb_44 hM, ↓mb_45 hM, ↓mb_46 hM, ↓mb_47 hM, ↓mb_48 hM, ↓mb_49 hM, ↓mb_55 hM, hM, h]
    · by_cases h2 : a = t
      · simp (disch := omega) only [↓nm_v, ↓tg, ↓rA, ↓chk_if, ↓reduceIte, inb_ii, ii_nat, ii_add, and_self, bi_zb, if_bi, if_bi1, ii_leT, ii_leF, ii_ltT, ii_ltF, ii_eqF, ii_m1F, ↓mb_2 hM, ↓mb_3 hM, ↓mb_4 hM, ↓mb_5 hM, ↓mb_6 hM, ↓mb_7 hM, ↓mb_9 hM, ↓mb_10 hM, ↓mb_12 hM, ↓mb_22 hM, ↓mb_24 hM, ↓mb_25 hM, ↓mb_27 hM, ↓mb_28 hM, ↓mb_31 hM, ↓mb_32 hM, ↓mb_33 hM, ↓mb_35 hM, ↓mb_36 hM, ↓mb_37 hM, ↓mb_41 hM, ↓mb_42 hM, ↓mb_43 hM, ↓mb_44 hM, ↓mb_45 hM, ↓mb_46 hM, ↓mb_47 hM, ↓mb_48 hM, ↓mb_49 hM, ↓mb_55 hM, hM, h, h2]
      · have := nx_ok hP ha ht h2 (by omega)
        omega
  | succ M ih =>
    intro a k q ha hd hM3 hq hk
    obtain ⟨q, rfl⟩ : ∃ q', q = q' + 1 := ⟨q - 1, by omega⟩
    rw [fX5_letter_b169]
    unfold wkN
    by_cases h : i < k
    · simp (disch := omega) only [↓nm_v, ↓tg, ↓rA, ↓chk_if, ↓reduceIte, inb_ii, ii_nat, ii_add, and_self, bi_zb, if_bi, if_bi1, ii_leT, ii_leF, ii_ltT, ii_ltF, ii_eqF, ii_m1F, ↓mb_2 hM, ↓mb_3 hM, ↓mb_4 hM, ↓mb_5 hM, ↓mb_6 hM, ↓mb_7 hM, ↓mb_9 hM, ↓mb_10 hM, ↓mb_12 hM, ↓mb_22 hM, ↓mb_24 hM, ↓mb_25 hM, ↓mb_27 hM, ↓mb_28 hM, ↓mb_31 hM, ↓mb_32 hM, ↓mb_33 hM, ↓mb_35 hM, ↓mb_36 hM, ↓mb_37 hM, ↓mb_41 hM, ↓mb_42 hM, ↓mb_43 hM, ↓mb_44 hM, ↓mb_45 hM, ↓mb_46 hM, ↓mb_47 hM, ↓mb_48 hM, ↓mb_49 hM, ↓mb_55 hM, hM, h]
    · by_cases h2 : a = t
      · simp (disch := omega) only [↓nm_v, ↓tg, ↓rA, ↓chk_if, ↓reduceIte, inb_ii, ii_nat, ii_add, and_self, bi_zb, if_bi, if_bi1, ii_leT, ii_leF, ii_ltT, ii_ltF, ii_eqF, ii_m1F, ↓mb_2 hM, ↓mb_3 hM, ↓mb_4 hM, ↓mb_5 hM, ↓mb_6 hM, ↓mb_7 hM, ↓mb_9 hM, ↓mb_10 hM, ↓mb_12 hM, ↓mb_22 hM, ↓mb_24 hM, ↓mb_25 hM, ↓mb_27 hM, ↓mb_28 hM, ↓mb_31 hM, ↓mb_32 hM, ↓mb_33 hM, ↓mb_35 hM, ↓mb_36 hM, ↓mb_37 hM, ↓mb_41 hM, ↓mb_42 hM, ↓mb_43 hM, ↓mb_44 hM, ↓mb_45 hM, ↓mb_46 hM, ↓mb_47 hM, ↓mb_48 hM, ↓mb_49 hM, ↓mb_55 hM, hM, h, h2]
      · obtain ⟨n1, n2, n3⟩ := nx_ok hP ha ht h2 (by omega)
        simp (disch := omega) only [↓nm_v, ↓tg, ↓rA, ↓chk_if, ↓reduceIte, inb_ii, ii_nat, ii_add, and_self, bi_zb, if_bi, if_bi1, ii_leT, ii_leF, ii_ltT, ii_ltF, ii_eqF, ii_m1F, ↓mb_2 hM, ↓mb_3 hM, ↓mb_4 hM, ↓mb_5 hM, ↓mb_6 hM, ↓mb_7 hM, ↓mb_9 hM, ↓mb_10 hM, ↓mb_12 hM, ↓mb_22 hM, ↓mb_24 hM, ↓mb_25 hM, ↓mb_27 hM, ↓mb_28 hM, ↓mb_31 hM, ↓mb_32 hM, ↓mb_33 hM, ↓mb_35 hM, ↓mb_36 hM, ↓mb_37 hM, ↓mb_41 hM, ↓mb_42 hM, ↓mb_43 hM, ↓mb_44 hM, ↓mb_45 hM, ↓mb_46 hM, ↓mb_47 hM, ↓mb_48 hM, ↓mb_49 hM, ↓mb_55 hM, hM, h, h2]
        rw [← ih (nxN A B W n a t) (k + 1) q n1 (by omega) (by omega) (by omega) (by omega)]
        have hd1 := h2' a t ha ht
        have key : ∀ d l r, l + d = 8 → d ≤ r → fnd (onP A B W n a t) d l < 8 → fX5_letter_b187 nf (fX5_letter_b169 nf T N R q) T N R r I m (ii i) (ii t) (ii a) (ii k) (ii l) = fX5_letter_b169 nf T N R q I m (ii i) (ii t) (ii (fnd (onP A B W n a t) d l)) (ii (k + 1)) := by
          intro d
          induction d with
          | zero =>
            intro l r hl _ hf
            have : fnd (onP A B W n a t) 0 l = l := rfl
            omega
          | succ d ihd =>
            intro l r hl hr hf
            obtain ⟨r, rfl⟩ : ∃ r', r = r' + 1 := ⟨r - 1, by omega⟩
            have hl8 : l < 8 := by omega
            have hll := ll_two (F := 1000000) (G := 100000000) (A := A) (B := B) (by omega) (by omega) hP.2.2.2.2 a l
            have hdl := h2' l t hl8 ht
            rw [fX5_letter_b187]
            unfold fnd at hf ⊢
            by_cases p : onP A B W n a t l = true
            · have p' : ll 1000000 A B W n a l + fwA 1000000 A B W n (8 * l + t) = fwA 1000000 A B W n (8 * a + t) := of_decide_eq_true p
              have p2 : ll 100000000 A B W n a l + fwA 100000000 A B W n (8 * l + t) = fwA 100000000 A B W n (8 * a + t) := by omega
              have p3 : ll 100000000 A B W n a l ≠ 100000000 := by omega
              rw [if_pos p]
              simp (disch := omega) only [↓nm_v, ↓tg, ↓rA, ↓chk_if, ↓reduceIte, inb_ii, ii_nat, ii_add, and_self, bi_zb, if_bi, if_bi1, ii_leT, ii_leF, ii_ltT, ii_ltF, ii_eqF, ii_m1F, ↓mb_2 hM, ↓mb_3 hM, ↓mb_4 hM, ↓mb_5 hM, ↓mb_6 hM, ↓mb_7 hM, ↓mb_9 hM, ↓mb_10 hM, ↓mb_12 hM, ↓mb_22 hM, ↓mb_24 hM, ↓mb_25 hM, ↓mb_27 hM, ↓mb_28 hM, ↓mb_31 hM, ↓mb_32 hM, ↓mb_33 hM, ↓mb_35 hM, ↓mb_36 hM, ↓mb_37 hM, ↓mb_41 hM, ↓mb_42 hM, ↓mb_43 hM, ↓mb_44 hM, ↓mb_45 hM, ↓mb_46 hM, ↓mb_47 hM, ↓mb_48 hM, ↓mb_49 hM, ↓mb_55 hM, hM, ↓bn_of (m_laneBetween hM hG hP hnf ha hl8), ↓bn_of (m_farOf hM hx hD hl8 ht), ↓bn_of (m_farOf hM hx hD ha ht), p2]
            · have p' : ¬ ll 1000000 A B W n a l + fwA 1000000 A B W n (8 * l + t) = fwA 1000000 A B W n (8 * a + t) := fun e => p (decide_eq_true e)
              rw [if_neg p] at hf ⊢
              by_cases p3 : ll 100000000 A B W n a l = 100000000
              · simp (disch := omega) only [↓nm_v, ↓tg, ↓rA, ↓chk_if, ↓reduceIte, inb_ii, ii_nat, ii_add, and_self, bi_zb, if_bi, if_bi1, ii_leT, ii_leF, ii_ltT, ii_ltF, ii_eqF, ii_m1F, ↓mb_2 hM, ↓mb_3 hM, ↓mb_4 hM, ↓mb_5 hM, ↓mb_6 hM, ↓mb_7 hM, ↓mb_9 hM, ↓mb_10 hM, ↓mb_12 hM, ↓mb_22 hM, ↓mb_24 hM, ↓mb_25 hM, ↓mb_27 hM, ↓mb_28 hM, ↓mb_31 hM, ↓mb_32 hM, ↓mb_33 hM, ↓mb_35 hM, ↓mb_36 hM, ↓mb_37 hM, ↓mb_41 hM, ↓mb_42 hM, ↓mb_43 hM, ↓mb_44 hM, ↓mb_45 hM, ↓mb_46 hM, ↓mb_47 hM, ↓mb_48 hM, ↓mb_49 hM, ↓mb_55 hM, hM, ↓bn_of (m_laneBetween hM hG hP hnf ha hl8), p3]
                exact ihd (l + 1) r (by omega) (by omega) hf
              · have p2 : ll 100000000 A B W n a l + fwA 100000000 A B W n (8 * l + t) ≠ fwA 100000000 A B W n (8 * a + t) := by omega
                simp (disch := omega) only [↓nm_v, ↓tg, ↓rA, ↓chk_if, ↓reduceIte, inb_ii, ii_nat, ii_add, and_self, bi_zb, if_bi, if_bi1, ii_leT, ii_leF, ii_ltT, ii_ltF, ii_eqF, ii_m1F, ↓mb_2 hM, ↓mb_3 hM, ↓mb_4 hM, ↓mb_5 hM, ↓mb_6 hM, ↓mb_7 hM, ↓mb_9 hM, ↓mb_10 hM, ↓mb_12 hM, ↓mb_22 hM, ↓mb_24 hM, ↓mb_25 hM, ↓mb_27 hM, ↓mb_28 hM, ↓mb_31 hM, ↓mb_32 hM, ↓mb_33 hM, ↓mb_35 hM, ↓mb_36 hM, ↓mb_37 hM, ↓mb_41 hM, ↓mb_42 hM, ↓mb_43 hM, ↓mb_44 hM, ↓mb_45 hM, ↓mb_46 hM, ↓mb_47 hM, ↓mb_48 hM, ↓mb_49 hM, ↓mb_55 hM, hM, ↓bn_of (m_laneBetween hM hG hP hnf ha hl8), ↓bn_of (m_farOf hM hx hD hl8 ht), ↓bn_of (m_farOf hM hx hD ha ht)]
                exact ihd (l + 1) r (by omega) (by omega) hf
        exact key 8 0 nf (by omega) (by omega) n1
end
