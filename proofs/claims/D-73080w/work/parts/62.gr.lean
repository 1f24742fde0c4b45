/-! PLAIN LAND, 12: lanes: ends, how many at a corner -/
theorem bn_of {α β : Type} {o : Option α} {a : α} (h : o = some a) (k : α → Option β) : o.bind k = k a := by rw [h]; rfl
theorem b2_of {α β γ : Type} {o : Option (α × β)} {a : α} {b : β} (h : o = some (a, b)) (k : α → β → Option γ) : b2 o k = k a b := by rw [h]; rfl
theorem b3_of {α β γ δ : Type} {o : Option (α × β × γ)} {a : α} {b : β} {c : γ} (h : o = some (a, b, c)) (k : α → β → γ → Option δ) : b3 o k = k a b c := by rw [h]; rfl
theorem b4_of {α β γ δ ε : Type} {o : Option (α × β × γ × δ)} {a : α} {b : β} {c : γ} {d : δ} (h : o = some (a, b, c, d)) (k : α → β → γ → δ → Option ε) : b4 o k = k a b c d := by rw [h]; rfl
theorem chk_if {β : Type} (c : Bool) (k : Option β) : chk c k = if c = true then k else none := by cases c <;> rfl
abbrev GrC (I : xI) (s n : Nat) (A B W : Nat → Nat) : Prop := I s 8 = ii n ∧ (∀ l, l < n → I (s + 5) l = ii (A l)) ∧ (∀ l, l < n → I (s + 6) l = ii (B l)) ∧ ∀ l, l < n → I (s + 7) l = ii (W l)
abbrev GrP (n : Nat) (A B W : Nat → Nat) : Prop := n ≤ 10 ∧ (∀ l, l < n → A l < 8) ∧ (∀ l, l < n → B l < 8) ∧ (∀ l, l < n → A l ≠ B l) ∧ ∀ l, l < n → 1 ≤ W l ∧ W l ≤ 9
abbrev GrM (I : xI) (m n : Nat) (A B W : Nat → Nat) : Prop := I (m + 2) 0 = ii n ∧ (∀ l, l < n → I (m + 2) (26 + l) = ii (A l)) ∧ (∀ l, l < n → I (m + 2) (36 + l) = ii (B l)) ∧ ∀ l, l < n → I (m + 2) (46 + l) = ii (W l)
section
variable {T N : xT} {R : xR} {I : xI} {c s m n nf : Nat} {A B W : Nat → Nat}
def atE (A B : Nat → Nat) (l : Nat) (x : Int32) : Bool := decide (ii (A l) = x) || decide (ii (B l) = x)
theorem c_isAt (hS : StSh s T N R) (hG : GrC I s n A B W) (hn : n ≤ 10) {l : Nat} (hl : l < n) (x : Int32) : fX1_isAt T N I R s (ii l) x = some (bi (atE A B l x)) := by
  unfold fX1_isAt atE
  simp (disch := omega) only [↓nm_v, ↓tg, ↓rA, ↓chk_if, ↓reduceIte, inb_ii, ii_nat, ii_add, and_self, bi_zb, if_bi, if_bi1, ii_leT, ii_leF, ii_ltT, ii_ltF, ii_eqF, ii_m1F, ↓sb_0 hS, ↓sb1_0 hS, ↓sb1_1 hS, ↓sb1_2 hS, ↓sb_1 hS, ↓sb_2 hS, ↓sb_3 hS, ↓sb_4 hS, ↓sb_5 hS, ↓sb_6 hS, ↓sb_7 hS, hS, hG]
  by_cases h1 : ii (A l) = x <;> by_cases h2 : ii (B l) = x <;> simp [h1, h2, bi]
theorem m_ends (hM : MSh m T N R) (hG : GrM I m n A B W) (hn : n ≤ 10) {l : Nat} (hl : l < n) (x : Int32) : fX5_ends T N I R m (ii l) x = some (bi (atE A B l x)) := by
  unfold fX5_ends atE
  simp (disch := omega) only [↓nm_v, ↓tg, ↓rA, ↓chk_if, ↓reduceIte, inb_ii, ii_nat, ii_add, and_self, bi_zb, if_bi, if_bi1, ii_leT, ii_leF, ii_ltT, ii_ltF, ii_eqF, ii_m1F, ↓mb_2 hM, ↓mb_3 hM, ↓mb_4 hM, ↓mb_5 hM, ↓mb_6 hM, ↓mb_7 hM, ↓mb_9 hM, ↓mb_10 hM, ↓mb_12 hM, ↓mb_22 hM, ↓mb_24 hM, ↓mb_25 hM, ↓mb_27 hM, ↓mb_28 hM, ↓mb_31 hM, ↓mb_32 hM, ↓mb_33 hM, ↓mb_35 hM, ↓mb_36 hM, ↓mb_37 hM, ↓mb_41 hM, ↓mb_42 hM, ↓mb_43 hM, ↓mb_44 hM, ↓mb_45 hM, ↓mb_46 hM, ↓mb_47 hM, ↓mb_48 hM, ↓mb_49 hM, ↓mb_55 hM, hM, hG]
  by_cases h1 : ii (A l) = x <;> by_cases h2 : ii (B l) = x <;> simp [h1, h2, bi]
def degS (A B : Nat → Nat) (x : Int32) (l v : Nat) : Nat := v + (atE A B l x).toNat
def deg (A B : Nat → Nat) (n : Nat) (x : Int32) : Nat := rngF (degS A B x) n 0 0
theorem c_lanesAt (hC : CSh c s T N R) (hS : StSh s T N R) (hG : GrC I s n A B W) (hn : n ≤ 10) (hnf : 70 < nf) (x : Int32) : fX0_lanesAt nf T N I R c x = some (ii (deg A B n x)) := by
  unfold fX0_lanesAt
  refine loop0 (fun k v l => fX0_lanesAt_b4 nf T N I R k c x (ii v) (ii l)) (degS A B x) n (fun v => some (ii v)) ?_ ?_ (by omega) 0
  · intro k v l hl
    show fX0_lanesAt_b4 nf T N I R (k + 1) c x (ii v) (ii l) = _
    rw [fX0_lanesAt_b4]
    simp (disch := omega) only [↓nm_v, ↓tg, ↓rA, ↓chk_if, ↓reduceIte, inb_ii, ii_nat, ii_add, and_self, bi_zb, if_bi, if_bi1, ii_leT, ii_leF, ii_ltT, ii_ltF, ii_eqF, ii_m1F, ↓cb_2 hC, ↓cb_1 hC, ↓cb_3 hC, ↓cb_4 hC, ↓cb_5 hC, ↓cb_6 hC, ↓cb_7 hC, ↓cb_10 hC, ↓cb_17 hC, ↓cb_18 hC, ↓cb_19 hC, ↓cb_20 hC, ↓cb_21 hC, ↓cb_22 hC, ↓cb_23 hC, ↓cb_8 hC, ↓cb_9 hC, ↓cb_24 hC, ↓cb_16 hC, ↓cb29_0 hC, ↓cb29_1 hC, ↓sb_0 hS, ↓sb1_0 hS, ↓sb1_1 hS, ↓sb1_2 hS, ↓sb_1 hS, ↓sb_2 hS, ↓sb_3 hS, ↓sb_4 hS, ↓sb_5 hS, ↓sb_6 hS, ↓sb_7 hS, hC, hS, hG, ↓bn_of (c_isAt hS hG hn hl x)]
    unfold degS
    cases atE A B l x <;> rfl
  · intro k v
    show fX0_lanesAt_b4 nf T N I R (k + 1) c x (ii v) (ii n) = _
    rw [fX0_lanesAt_b4]
    simp (disch := omega) only [↓nm_v, ↓tg, ↓rA, ↓chk_if, ↓reduceIte, inb_ii, ii_nat, ii_add, and_self, bi_zb, if_bi, if_bi1, ii_leT, ii_leF, ii_ltT, ii_ltF, ii_eqF, ii_m1F, ↓cb_2 hC, ↓cb_1 hC, ↓cb_3 hC, ↓cb_4 hC, ↓cb_5 hC, ↓cb_6 hC, ↓cb_7 hC, ↓cb_10 hC, ↓cb_17 hC, ↓cb_18 hC, ↓cb_19 hC, ↓cb_20 hC, ↓cb_21 hC, ↓cb_22 hC, ↓cb_23 hC, ↓cb_8 hC, ↓cb_9 hC, ↓cb_24 hC, ↓cb_16 hC, ↓cb29_0 hC, ↓cb29_1 hC, ↓sb_0 hS, ↓sb1_0 hS, ↓sb1_1 hS, ↓sb1_2 hS, ↓sb_1 hS, ↓sb_2 hS, ↓sb_3 hS, ↓sb_4 hS, ↓sb_5 hS, ↓sb_6 hS, ↓sb_7 hS, hC, hS, hG]
theorem m_laneEnds (hM : MSh m T N R) (hG : GrM I m n A B W) (hn : n ≤ 10) (hnf : 70 < nf) (x : Int32) : fX5_laneEnds nf T N I R m x = some (ii (deg A B n x)) := by
  unfold fX5_laneEnds
  refine loop0 (fun k v l => fX5_laneEnds_b4 nf T N I R k m x (ii v) (ii l)) (degS A B x) n (fun v => some (ii v)) ?_ ?_ (by omega) 0
  · intro k v l hl
    show fX5_laneEnds_b4 nf T N I R (k + 1) m x (ii v) (ii l) = _
    rw [fX5_laneEnds_b4]
    simp (disch := omega) only [↓nm_v, ↓tg, ↓rA, ↓chk_if, ↓reduceIte, inb_ii, ii_nat, ii_add, and_self, bi_zb, if_bi, if_bi1, ii_leT, ii_leF, ii_ltT, ii_ltF, ii_eqF, ii_m1F, ↓mb_2 hM, ↓mb_3 hM, ↓mb_4 hM, ↓mb_5 hM, ↓mb_6 hM, ↓mb_7 hM, ↓mb_9 hM, ↓mb_10 hM, ↓mb_12 hM, ↓mb_22 hM, ↓mb_24 hM, ↓mb_25 hM, ↓mb_27 hM, ↓mb_28 hM, ↓mb_31 hM, ↓mb_32 hM, ↓mb_33 hM, ↓mb_35 hM, ↓mb_36 hM, ↓mb_37 hM, ↓mb_41 hM, ↓mb_42 hM, ↓mb_43 hM, ↓mb_44 hM, ↓mb_45 hM, ↓mb_46 hM, ↓mb_47 hM, ↓mb_48 hM, ↓mb_49 hM, ↓mb_55 hM, hM, hG, ↓bn_of (m_ends hM hG hn hl x)]
    unfold degS
    cases atE A B l x <;> rfl
  · intro k v
    show fX5_laneEnds_b4 nf T N I R (k + 1) m x (ii v) (ii n) = _
    rw [fX5_laneEnds_b4]
    simp (disch := omega) only [↓nm_v, ↓tg, ↓rA, ↓chk_if, ↓reduceIte, inb_ii, ii_nat, ii_add, and_self, bi_zb, if_bi, if_bi1, ii_leT, ii_leF, ii_ltT, ii_ltF, ii_eqF, ii_m1F, ↓mb_2 hM, ↓mb_3 hM, ↓mb_4 hM, ↓mb_5 hM, ↓mb_6 hM, ↓mb_7 hM, ↓mb_9 hM, ↓mb_10 hM, ↓mb_12 hM, ↓mb_22 hM, ↓mb_24 hM, ↓mb_25 hM, ↓mb_27 hM, ↓mb_28 hM, ↓mb_31 hM, ↓mb_32 hM, ↓mb_33 hM, ↓mb_35 hM, ↓mb_36 hM, ↓mb_37 hM, ↓mb_41 hM, ↓mb_42 hM, ↓mb_43 hM, ↓mb_44 hM, ↓mb_45 hM, ↓mb_46 hM, ↓mb_47 hM, ↓mb_48 hM, ↓mb_49 hM, ↓mb_55 hM, hM, hG]
end
