/-! PLAIN LAND, 24: rows of numbers: a state, a table; what laws tell, where children go, told plainly -/
/-- a state at s (its table apart) tells the row g -/
abbrev StR (I : xI) (s : Nat) (g : Nat → Int32) : Prop := I s 8 = g 0 ∧ I s 9 = g 1 ∧ I s 10 = g 2 ∧ I s 13 = g 4 ∧ I s 11 = g 6 ∧ I s 12 = g 7 ∧ (∀ l, l < 10 → I (s + 5) l = g (26 + l)) ∧ (∀ l, l < 10 → I (s + 6) l = g (36 + l)) ∧ (∀ l, l < 10 → I (s + 7) l = g (46 + l)) ∧ (∀ l, l < 10 → I (s + 8) l = g (56 + l)) ∧ (∀ k, k < 4 → I (s + 9) k = g (66 + k)) ∧ (∀ k, k < 6 → I (s + 10) k = g (70 + k)) ∧ I (s + 11) 2 = g 3
abbrev TbR (I : xI) (t : Nat) (g : Nat → Int32) : Prop := I t 3 = g 5 ∧ (∀ k, k < 4 → I (t + 1) k = g (18 + k)) ∧ (∀ k, k < 4 → I (t + 2) k = g (22 + k)) ∧ (∀ l, l < 10 → I (t + 3) l = g (8 + l))
def na (g : Nat → Int32) (i : Nat) : Nat := (g i).toNatClampNeg
/-- a row is in order: n lanes, k children, at most hour H -/
abbrev rOK (g : Nat → Int32) (n k H : Nat) : Prop :=
  (g 0 = ii n ∧ n ≤ 10 ∧ g 1 = ii k ∧ k ≤ 4) ∧ (g 2 = ii (na g 2) ∧ na g 2 ≤ 6) ∧ (g 5 = ii (na g 5) ∧ na g 5 ≤ H) ∧ (g 6 = ii (na g 6) ∧ na g 6 ≤ 10) ∧ (g 7 = ii (na g 7) ∧ na g 7 ≤ 9) ∧
  (∀ l, l < n → g (26 + l) = ii (na g (26 + l)) ∧ na g (26 + l) < 8) ∧ (∀ l, l < n → g (36 + l) = ii (na g (36 + l)) ∧ na g (36 + l) < 8) ∧ (∀ l, l < n → na g (26 + l) ≠ na g (36 + l)) ∧
  (∀ l, l < n → g (46 + l) = ii (na g (46 + l)) ∧ 1 ≤ na g (46 + l) ∧ na g (46 + l) ≤ 9) ∧ (∀ l, l < n → g (56 + l) = ii (na g (56 + l)) ∧ na g (56 + l) < 5) ∧
  (∀ l, l < n → g (8 + l) = -1 ∨ (g (8 + l) = ii (na g (8 + l)) ∧ na g (8 + l) < 20)) ∧
  (∀ c, c < k → g (18 + c) = ii (na g (18 + c)) ∧ na g (18 + c) < 8) ∧ (∀ c, c < k → g (22 + c) = -1 ∨ (g (22 + c) = ii (na g (22 + c)) ∧ na g (22 + c) < n)) ∧
  (∀ c, c < k → g (66 + c) = ii (na g (66 + c)) ∧ na g (66 + c) ≤ 9) ∧ (∀ i, i < na g 2 → g (70 + i) = ii (na g (70 + i)) ∧ na g (70 + i) < 20) ∧
  (g 3 = ii (na g 3) ∧ na g 3 ≤ 6) ∧ (g 4 = -1 ∨ (g 4 = ii (na g 4) ∧ na g 4 < na g 3))
/-- what a law looks at -/
def envG (g : Nat → Int32) (ch : Nat) (lane : Int32) : Nat → Int64 := fun i =>
  if i = 0 then (ii ch).toInt64 else if i = 1 then (g (66 + ch)).toInt64 else if i = 2 then lane.toInt64 else
  if i = 3 then (if lane = -1 then -1 else (g (46 + lane.toNatClampNeg)).toInt64) else if i = 4 then (if lane = -1 then -1 else (g (56 + lane.toNatClampNeg)).toInt64) else
  if i = 5 then (g (18 + ch)).toInt64 else if i = 6 then (g (22 + ch)).toInt64 else if i = 7 then (g 5).toInt64 else if i = 8 then (g 7).toInt64 else 0
abbrev Den : Type := (Nat → Int64) → Option Int64
/-- laws by number, head: what they tell -/
abbrev Laws : Type := Nat → Nat → Den
def toldG (D : Laws) (g : Nat → Int32) (h ch : Nat) (lane : Int32) : Option Int64 := if g 4 = -1 then none else D (na g 4) h (envG g ch lane)
def clp (x : Int64) (hi : Nat) : Nat := if x < 0 then 0 else if (jj hi) < x then hi else x.toInt.toNat
def orN (o : Option Int64) (hi w : Nat) : Nat := match o with
  | none => w
  | some x => clp x hi
def turnG (D : Laws) (g : Nat → Int32) (ch : Nat) : Nat := orN (toldG D g 0 ch (-1)) 99 0
def sayG (D : Laws) (g : Nat → Int32) (ch l : Nat) : Nat := orN (toldG D g 1 ch (ii l)) 19 (na g (56 + l))
def barG (D : Laws) (g : Nat → Int32) (ch l : Nat) : Bool := (toldG D g 2 ch (ii l)).isSome
def canG (D : Laws) (g : Nat → Int32) (ch l : Nat) : Bool := (decide (g (26 + l) = g (18 + ch)) || decide (g (36 + l) = g (18 + ch))) && !barG D g ch l
def cntG (D : Laws) (g : Nat → Int32) (ch l : Nat) : Nat := rngF (fun j x => x + (canG D g ch j).toNat) l 0 0
def pickG (D : Laws) (g : Nat → Int32) (ch w l : Nat) : Int32 := rngF (fun j v => if canG D g ch j = true ∧ cntG D g ch j = w then ii j else v) l 0 (-1)
def laneG (D : Laws) (g : Nat → Int32) (n ch : Nat) : Int32 := if cntG D g ch n = 0 then -1 else pickG D g ch (turnG D g ch % cntG D g ch n) n
theorem cntG_s (D : Laws) (g : Nat → Int32) (ch l : Nat) : cntG D g ch (l + 1) = cntG D g ch l + (canG D g ch l).toNat := rngF_s _ _ _
theorem pickG_s (D : Laws) (g : Nat → Int32) (ch w l : Nat) : pickG D g ch w (l + 1) = if canG D g ch l = true ∧ cntG D g ch l = w then ii l else pickG D g ch w l := rngF_s _ _ _
theorem cntG_le (D : Laws) (g : Nat → Int32) (ch l : Nat) : cntG D g ch l ≤ l := by
  induction l with
  | zero => exact Nat.le_refl _
  | succ l ih =>
    rw [cntG_s]
    cases canG D g ch l <;> simp <;> omega
theorem pick_ok (D : Laws) (g : Nat → Int32) (ch w : Nat) : ∀ l, w < cntG D g ch l → ∃ j, j < l ∧ canG D g ch j = true ∧ pickG D g ch w l = ii j := by
  intro l
  induction l with
  | zero => intro h; exact absurd h (Nat.not_lt_zero _)
  | succ l ih =>
    intro h
    rw [pickG_s]
    rw [cntG_s] at h
    by_cases q : canG D g ch l = true ∧ cntG D g ch l = w
    · exact ⟨l, by omega, q.1, if_pos q⟩
    · rw [if_neg q]
      have h2 : w < cntG D g ch l := by
        cases c : canG D g ch l with
        | false =>
          rw [c] at h
          simpa using h
        | true =>
          rw [c] at h
          have h' : w < cntG D g ch l + 1 := h
          have : cntG D g ch l ≠ w := fun e => q ⟨c, e⟩
          omega
      obtain ⟨j, h3, h4, h5⟩ := ih h2
      exact ⟨j, by omega, h4, h5⟩
theorem clp_le (x : Int64) (hi : Nat) (hh : hi < 1000) : clp x hi ≤ hi := by
  unfold clp
  split
  · omega
  · split
    · omega
    · rename_i h1 h2
      rw [ltL_int, jj_toInt (by omega)] at h2
      rw [ltL_int, show (0 : Int64).toInt = 0 by decide] at h1
      omega
theorem turn_le (D : Laws) (g : Nat → Int32) (ch : Nat) : turnG D g ch ≤ 99 := by
  unfold turnG orN
  split
  · omega
  · exact clp_le _ _ (by omega)
theorem lane_ok (D : Laws) (g : Nat → Int32) (n ch : Nat) : laneG D g n ch = -1 ∨ ∃ j, j < n ∧ canG D g ch j = true ∧ laneG D g n ch = ii j := by
  unfold laneG
  by_cases q : cntG D g ch n = 0
  · exact Or.inl (if_pos q)
  · rw [if_neg q]
    exact Or.inr (pick_ok D g ch _ n (Nat.mod_lt _ (by omega)))
/-- near and bounded, plainly -/
theorem c_near (x : Int64) {hi : Nat} (hh : hi < 1000) : fX0_near x (ii 0) (ii hi) = some (ii (clp x hi)) := by
  unfold fX0_near clp
  rw [ii_64 (show hi < 2147483648 by omega), ii_64 (show 0 < 2147483648 by omega)]
  have e0 : (jj 0).toInt = 0 := by decide
  have eh : (jj hi).toInt = (hi : Int) := jj_toInt (by omega)
  have z0 : (0 : Int64).toInt = 0 := by decide
  have toi : ∀ k : Nat, k < 1000 → (jj k).toInt32 = ii k := by
    intro k hk
    rw [← ii_64 (by omega)]
    exact Int32.toInt32_toInt64 _
  congr 1
  by_cases h1 : x.toInt < 0
  · have a1 : x < jj hi := by rw [ltL_int]; omega
    have a2 : x < jj 0 := by rw [ltL_int]; omega
    have a3 : x < 0 := by rw [ltL_int]; omega
    rw [if_pos a1, if_pos a2, if_pos a3, toi 0 (by omega)]
  · have a3 : ¬ x < 0 := by rw [ltL_int]; omega
    rw [if_neg a3]
    by_cases h2 : (hi : Int) < x.toInt
    · have a1 : ¬ x < jj hi := by rw [ltL_int]; omega
      have a4 : jj hi < x := by rw [ltL_int]; omega
      have a2 : ¬ jj hi < jj 0 := by rw [ltL_int]; omega
      rw [if_neg a1, if_neg a2, if_pos a4, toi hi hh]
    · have a4 : ¬ jj hi < x := by rw [ltL_int]; omega
      rw [if_neg a4]
      have ex : x = jj x.toInt.toNat := by
        rw [← Int64.toInt_inj, jj_toInt (by omega)]
        omega
      by_cases h3 : x < jj hi
      · have a2 : ¬ x < jj 0 := by rw [ltL_int]; omega
        rw [if_pos h3, if_neg a2]
        rw [ex]
        rw [toi _ (by omega)]
        rw [← ex]
      · have h3' := h3
        rw [ltL_int] at h3'
        have a2 : ¬ jj hi < jj 0 := by rw [ltL_int]; omega
        rw [if_neg h3, if_neg a2, toi hi hh]
        congr 1
        omega
theorem m_bounded (x : Int64) {hi : Nat} (hh : hi < 1000) : fX5_bounded x (ii 0) (ii hi) = some (ii (clp x hi)) := by
  unfold fX5_bounded clp
  rw [ii_64 (show hi < 2147483648 by omega), ii_64 (show 0 < 2147483648 by omega)]
  have e0 : (jj 0).toInt = 0 := by decide
  have eh : (jj hi).toInt = (hi : Int) := jj_toInt (by omega)
  have z0 : (0 : Int64).toInt = 0 := by decide
  have toi : ∀ k : Nat, k < 1000 → (jj k).toInt32 = ii k := by
    intro k hk
    rw [← ii_64 (by omega)]
    exact Int32.toInt32_toInt64 _
  by_cases h1 : x.toInt < 0
  · have a1 : ¬ jj 0 ≤ x := by rw [leL_int]; omega
    have a3 : x < 0 := by rw [ltL_int]; omega
    rw [if_neg a1, if_pos a3]
  · have a1 : jj 0 ≤ x := by rw [leL_int]; omega
    have a3 : ¬ x < 0 := by rw [ltL_int]; omega
    rw [if_pos a1, if_neg a3]
    by_cases h2 : (hi : Int) < x.toInt
    · have a2 : ¬ x ≤ jj hi := by rw [leL_int]; omega
      have a4 : jj hi < x := by rw [ltL_int]; omega
      rw [if_neg a2, if_pos a4]
    · have a2 : x ≤ jj hi := by rw [leL_int]; omega
      have a4 : ¬ jj hi < x := by rw [ltL_int]; omega
      rw [if_pos a2, if_neg a4]
      have ex : x = jj x.toInt.toNat := by
        rw [← Int64.toInt_inj, jj_toInt (by omega)]
        omega
      have e2 : x.toInt32 = ii x.toInt.toNat := by
        rw [← toi _ (by omega), ← ex]
      rw [e2]
theorem clp_id {k hi : Nat} (h : k ≤ hi) (hh : hi < 1000) : clp (jj k) hi = k := by
  have e0 : (0 : Int64).toInt = 0 := by decide
  have ek : (jj k).toInt = (k : Int) := jj_toInt (by omega)
  have eh : (jj hi).toInt = (hi : Int) := jj_toInt (by omega)
  unfold clp
  rw [if_neg (by rw [ltL_int]; omega), if_neg (by rw [ltL_int]; omega), ek]
  rfl
/-- nothing is told by this number -/
theorem c_or (o : Option Int64) (h : o ≠ some (-4000000000)) {hi : Nat} (hh : hi < 1000) (w : Nat) : fX0_or (o.getD (-4000000000)) (ii hi) (ii w) = some (ii (orN o hi w)) := by
  unfold fX0_or orN
  cases o with
  | none => exact if_pos rfl
  | some x =>
    have : ¬ x = -4000000000 := fun e => h (by rw [e])
    show (if x = -4000000000 then some (ii w) else (fX0_near x (ii 0) (ii hi)).bind fun r2 => some r2) = _
    rw [if_neg this, c_near x hh]
    rfl
/-- what the component is told, at every heap that is like this where fz holds -/
def CTold (nf c s : Nat) (D : Laws) (fz : Nat → Prop) (T0 N0 : xT) (I0 : xI) (R0 : xR) : Prop :=
  ∀ (T N : xT) (I : xI) (L : xL) (R : xR) (g : Nat → Int32) (t n k H : Nat), (∀ a, fz a → T a = T0 a ∧ N a = N0 a ∧ I a = I0 a ∧ R a = R0 a) → CSh c s T N R → StSh s T N R → TbSh t T N R → StR I s g → TbR I t g → rOK g n k H → H ≤ 2000 →
    ∀ (h ch : Nat) (lane : Int32), h < 3 → ch < k → (lane = -1 ∨ ∃ l, l < n ∧ lane = ii l) →
      toldG D g h ch lane ≠ some (-4000000000) ∧ ∃ w, fX0_told nf T N I L R c (ii h) t (ii ch) lane = some ((toldG D g h ch lane).getD (-4000000000), sL L (c + 31) w)
section
variable {T N T0 N0 : xT} {R R0 : xR} {I I0 : xI} {L : xL} {c s t m n k nf H : Nat} {D : Laws} {fz : Nat → Prop} {g : Nat → Int32}
theorem c_turns (hT : CTold nf c s D fz T0 N0 I0 R0) (hfz : ∀ a, fz a → T a = T0 a ∧ N a = N0 a ∧ I a = I0 a ∧ R a = R0 a) (hC : CSh c s T N R) (hS : StSh s T N R) (hB : TbSh t T N R) (hr : StR I s g) (ht : TbR I t g) (ho : rOK g n k H) (hH : H ≤ 2000) {ch : Nat} (hch : ch < k) :
    ∃ w, fX0_turns nf T N I L R c t (ii ch) = some (ii (turnG D g ch), sL L (c + 31) w) := by
  obtain ⟨h1, w, e⟩ := hT T N I L R g t n k H hfz hC hS hB hr ht ho hH 0 ch (-1) (by omega) hch (Or.inl rfl)
  refine ⟨w, ?_⟩
  unfold fX0_turns
  simp (disch := omega) only [↓nm_v, ↓tg, ↓rA, ↓chk_if, ↓reduceIte, inb_ii, ii_nat, ii_add, and_self, bi_zb, if_bi, if_bi1, ii_leT, ii_leF, ii_ltT, ii_ltF, ii_eqF, ii_m1F, ↓cb_2 hC, ↓cb_1 hC, ↓cb_3 hC, ↓cb_4 hC, ↓cb_5 hC, ↓cb_6 hC, ↓cb_7 hC, ↓cb_10 hC, ↓cb_17 hC, ↓cb_18 hC, ↓cb_19 hC, ↓cb_20 hC, ↓cb_21 hC, ↓cb_22 hC, ↓cb_23 hC, ↓cb_8 hC, ↓cb_9 hC, ↓cb_24 hC, ↓cb_16 hC, ↓cb29_0 hC, ↓cb29_1 hC, ↓sb_0 hS, ↓sb1_0 hS, ↓sb1_1 hS, ↓sb1_2 hS, ↓sb_1 hS, ↓sb_2 hS, ↓sb_3 hS, ↓sb_4 hS, ↓sb_5 hS, ↓sb_6 hS, ↓sb_7 hS, hC, hS, ↓b2_of e, ↓bn_of (c_or (toldG D g 0 ch (-1)) h1 (show 99 < 1000 by omega) 0)]
  rfl
theorem c_says (hT : CTold nf c s D fz T0 N0 I0 R0) (hfz : ∀ a, fz a → T a = T0 a ∧ N a = N0 a ∧ I a = I0 a ∧ R a = R0 a) (hC : CSh c s T N R) (hS : StSh s T N R) (hB : TbSh t T N R) (hr : StR I s g) (ht : TbR I t g) (ho : rOK g n k H) (hH : H ≤ 2000) {ch l : Nat} (hch : ch < k) (hl : l < n) :
    ∃ w, fX0_says nf T N I L R c t (ii ch) (ii l) = some (ii (sayG D g ch l), sL L (c + 31) w) := by
  obtain ⟨h1, w, e⟩ := hT T N I L R g t n k H hfz hC hS hB hr ht ho hH 1 ch (ii l) (by omega) hch (Or.inr ⟨l, hl, rfl⟩)
  refine ⟨w, ?_⟩
  have hn := ho.1.2.1
  have e2 := hr.2.2.2.2.2.2.2.2.2.1 l (by omega)
  have e3 := (ho.2.2.2.2.2.2.2.2.2.1 l hl).1
  unfold fX0_says
  simp (disch := omega) only [↓nm_v, ↓tg, ↓rA, ↓chk_if, ↓reduceIte, inb_ii, ii_nat, ii_add, and_self, bi_zb, if_bi, if_bi1, ii_leT, ii_leF, ii_ltT, ii_ltF, ii_eqF, ii_m1F, ↓cb_2 hC, ↓cb_1 hC, ↓cb_3 hC, ↓cb_4 hC, ↓cb_5 hC, ↓cb_6 hC, ↓cb_7 hC, ↓cb_10 hC, ↓cb_17 hC, ↓cb_18 hC, ↓cb_19 hC, ↓cb_20 hC, ↓cb_21 hC, ↓cb_22 hC, ↓cb_23 hC, ↓cb_8 hC, ↓cb_9 hC, ↓cb_24 hC, ↓cb_16 hC, ↓cb29_0 hC, ↓cb29_1 hC, ↓sb_0 hS, ↓sb1_0 hS, ↓sb1_1 hS, ↓sb1_2 hS, ↓sb_1 hS, ↓sb_2 hS, ↓sb_3 hS, ↓sb_4 hS, ↓sb_5 hS, ↓sb_6 hS, ↓sb_7 hS, hC, hS, ↓b2_of e, e2, e3, ↓bn_of (c_or (toldG D g 1 ch (ii l)) h1 (show 19 < 1000 by omega) (na g (56 + l)))]
  rfl
theorem c_isBarred (hT : CTold nf c s D fz T0 N0 I0 R0) (hfz : ∀ a, fz a → T a = T0 a ∧ N a = N0 a ∧ I a = I0 a ∧ R a = R0 a) (hC : CSh c s T N R) (hS : StSh s T N R) (hB : TbSh t T N R) (hr : StR I s g) (ht : TbR I t g) (ho : rOK g n k H) (hH : H ≤ 2000) {ch l : Nat} (hch : ch < k) (hl : l < n) :
    ∃ w, fX0_isBarred nf T N I L R c t (ii ch) (ii l) = some (bi (barG D g ch l), sL L (c + 31) w) := by
  obtain ⟨h1, w, e⟩ := hT T N I L R g t n k H hfz hC hS hB hr ht ho hH 2 ch (ii l) (by omega) hch (Or.inr ⟨l, hl, rfl⟩)
  refine ⟨w, ?_⟩
  unfold fX0_isBarred barG
  generalize toldG D g 2 ch (ii l) = o at h1 e ⊢
  cases o with
  | none => simp (disch := omega) only [↓nm_v, ↓tg, ↓rA, ↓chk_if, ↓reduceIte, inb_ii, ii_nat, ii_add, and_self, bi_zb, if_bi, if_bi1, ii_leT, ii_leF, ii_ltT, ii_ltF, ii_eqF, ii_m1F, ↓cb_2 hC, ↓cb_1 hC, ↓cb_3 hC, ↓cb_4 hC, ↓cb_5 hC, ↓cb_6 hC, ↓cb_7 hC, ↓cb_10 hC, ↓cb_17 hC, ↓cb_18 hC, ↓cb_19 hC, ↓cb_20 hC, ↓cb_21 hC, ↓cb_22 hC, ↓cb_23 hC, ↓cb_8 hC, ↓cb_9 hC, ↓cb_24 hC, ↓cb_16 hC, ↓cb29_0 hC, ↓cb29_1 hC, ↓sb_0 hS, ↓sb1_0 hS, ↓sb1_1 hS, ↓sb1_2 hS, ↓sb_1 hS, ↓sb_2 hS, ↓sb_3 hS, ↓sb_4 hS, ↓sb_5 hS, ↓sb_6 hS, ↓sb_7 hS, hC, hS, ↓b2_of e, Option.getD_none]; rfl
  | some x =>
    have : ¬ x = -4000000000 := fun e => h1 (by rw [e])
    simp (disch := omega) only [↓nm_v, ↓tg, ↓rA, ↓chk_if, ↓reduceIte, inb_ii, ii_nat, ii_add, and_self, bi_zb, if_bi, if_bi1, ii_leT, ii_leF, ii_ltT, ii_ltF, ii_eqF, ii_m1F, ↓cb_2 hC, ↓cb_1 hC, ↓cb_3 hC, ↓cb_4 hC, ↓cb_5 hC, ↓cb_6 hC, ↓cb_7 hC, ↓cb_10 hC, ↓cb_17 hC, ↓cb_18 hC, ↓cb_19 hC, ↓cb_20 hC, ↓cb_21 hC, ↓cb_22 hC, ↓cb_23 hC, ↓cb_8 hC, ↓cb_9 hC, ↓cb_24 hC, ↓cb_16 hC, ↓cb29_0 hC, ↓cb29_1 hC, ↓sb_0 hS, ↓sb1_0 hS, ↓sb1_1 hS, ↓sb1_2 hS, ↓sb_1 hS, ↓sb_2 hS, ↓sb_3 hS, ↓sb_4 hS, ↓sb_5 hS, ↓sb_6 hS, ↓sb_7 hS, hC, hS, ↓b2_of e, Option.getD_some, this]
    rfl
/-- along which lane: the component -/
theorem c_laneNext (hT : CTold nf c s D fz T0 N0 I0 R0) (hfz : ∀ a, fz a → T a = T0 a ∧ N a = N0 a ∧ I a = I0 a ∧ R a = R0 a) (hf2 : ∀ a, fz a → a = c + 13 ∨ a = c + 14 ∨ c + 202 ≤ a) (hs : s = c + 2) (htr : t + 3 < c + 32 ∨ (c + 38 < t ∧ t + 3 < c + 171)) (hC : CSh c s T N R) (hS : StSh s T N R) (hB : TbSh t T N R) (hr : StR I s g) (ht : TbR I t g) (ho : rOK g n k H) (hH : H ≤ 2000) (hnf : 70 < nf) {ch : Nat} (hch : ch < k) :
    ∃ x w, fX0_laneNext nf T N I L R c t (ii ch) = some (laneG D g n ch, sI I (c + 32) x, sL L (c + 31) w) := by
  have hn := ho.1.2.1
  have hk := ho.1.2.2.2
  have hg0 := ho.1.1
  -- the heap with another row of lanes that may be gone
  have hh : ∀ x, (∀ a, fz a → T a = T0 a ∧ N a = N0 a ∧ sI I (c + 32) x a = I0 a ∧ R a = R0 a) ∧ StR (sI I (c + 32) x) s g ∧ TbR (sI I (c + 32) x) t g := by
    intro x
    refine ⟨fun a ha => ?_, ?_, ?_⟩
    · have := hf2 a ha
      rw [sI_ne (by omega)]
      exact hfz a ha
    · simp (disch := omega) only [StR, sI_ne]
      exact hr
    · simp (disch := omega) only [TbR, sI_ne]
      exact ht
  have loop := loop_rel (fun q (p : (Nat → Int32) × (Nat → Int64)) l => fX0_laneNext_b5 nf T N R q (sI I (c + 32) p.1) (sL L (c + 31) p.2) c t (ii ch) (ii (cntG D g ch l)) (ii l)) (fun l p => ∀ w, w < cntG D g ch l → p.1 w = pickG D g ch w l) n (fun p => if cntG D g ch n = 0 then some ((-1 : Int32), sI I (c + 32) p.1, sL L (c + 31) p.2) else b2 (fX0_turns nf T N (sI I (c + 32) p.1) (sL L (c + 31) p.2) R c t (ii ch)) fun r7 L8 => rA T N 100 (c + 32) (r7 - r7 / ii (cntG D g ch n) * ii (cntG D g ch n)) fun j11 => some (p.1 j11, sI I (c + 32) p.1, L8)) ?_ ?_ n 0 (I (c + 32), L (c + 31)) nf (by omega) (by omega) (fun w hw => absurd hw (Nat.not_lt_zero _))
  · obtain ⟨⟨x, w⟩, e, hx⟩ := loop
    simp only [sI_id, sL_id] at e
    unfold fX0_laneNext
    rw [show fX0_laneNext_b5 nf T N R nf I L c t (ii ch) (ii 0) (ii 0) = _ from e]
    unfold laneG
    by_cases q : cntG D g ch n = 0
    · rw [if_pos q, if_pos q]
      exact ⟨x, w, rfl⟩
    · rw [if_neg q, if_neg q]
      obtain ⟨h1, h2, h3⟩ := hh x
      obtain ⟨w2, e2⟩ := c_turns (L := sL L (c + 31) w) hT h1 hC hS hB h2 h3 ho hH hch
      rw [sL_sL] at e2
      refine ⟨x, w2, ?_⟩
      have hcl := cntG_le D g ch n
      have htl := turn_le D g ch
      have hm := Nat.mod_lt (turnG D g ch) (show 0 < cntG D g ch n by omega)
      have hp : x (turnG D g ch % cntG D g ch n) = pickG D g ch (turnG D g ch % cntG D g ch n) n := hx _ hm
      simp (disch := omega) only [↓nm_v, ↓tg, ↓rA, ↓chk_if, ↓reduceIte, inb_ii, ii_nat, ii_add, and_self, bi_zb, if_bi, if_bi1, ii_leT, ii_leF, ii_ltT, ii_ltF, ii_eqF, ii_m1F, ↓cb_2 hC, ↓cb_1 hC, ↓cb_3 hC, ↓cb_4 hC, ↓cb_5 hC, ↓cb_6 hC, ↓cb_7 hC, ↓cb_10 hC, ↓cb_17 hC, ↓cb_18 hC, ↓cb_19 hC, ↓cb_20 hC, ↓cb_21 hC, ↓cb_22 hC, ↓cb_23 hC, ↓cb_8 hC, ↓cb_9 hC, ↓cb_24 hC, ↓cb_16 hC, ↓cb29_0 hC, ↓cb29_1 hC, ↓sb_0 hS, ↓sb1_0 hS, ↓sb1_1 hS, ↓sb1_2 hS, ↓sb_1 hS, ↓sb_2 hS, ↓sb_3 hS, ↓sb_4 hS, ↓sb_5 hS, ↓sb_6 hS, ↓sb_7 hS, hC, hS, ↓b2_of e2, ↓ii_rem, hp]
  · rintro q ⟨x, w⟩ l hl hx
    obtain ⟨h1, h2, h3⟩ := hh x
    obtain ⟨w2, e2⟩ := c_isBarred (L := sL L (c + 31) w) hT h1 hC hS hB h2 h3 ho hH hch hl
    rw [sL_sL] at e2
    have hcl := cntG_le D g ch l
    have eA := h2.2.2.2.2.2.2.1 l (by omega)
    have eB := h2.2.2.2.2.2.2.2.1 l (by omega)
    have eC := h3.2.1 ch (by omega)
    have e0 := h2.1
    have eat : fX1_isAt T N (sI I (c + 32) x) R s (ii l) (g (18 + ch)) = some (bi (decide (g (26 + l) = g (18 + ch)) || decide (g (36 + l) = g (18 + ch)))) := by
      unfold fX1_isAt
      simp (disch := omega) only [↓nm_v, ↓tg, ↓rA, ↓chk_if, ↓reduceIte, inb_ii, ii_nat, ii_add, and_self, bi_zb, if_bi, if_bi1, ii_leT, ii_leF, ii_ltT, ii_ltF, ii_eqF, ii_m1F, ↓sb_0 hS, ↓sb1_0 hS, ↓sb1_1 hS, ↓sb1_2 hS, ↓sb_1 hS, ↓sb_2 hS, ↓sb_3 hS, ↓sb_4 hS, ↓sb_5 hS, ↓sb_6 hS, ↓sb_7 hS, hS, eA, eB]
      by_cases p1 : g (26 + l) = g (18 + ch) <;> by_cases p2 : g (36 + l) = g (18 + ch) <;> simp [p1, p2, bi]
    cases p1 : (decide (g (26 + l) = g (18 + ch)) || decide (g (36 + l) = g (18 + ch))) with
    | false =>
      have hcan : canG D g ch l = false := by unfold canG; rw [p1]; rfl
      refine ⟨(x, w), ?_, ?_⟩
      · show fX0_laneNext_b5 nf T N R (q + 1) (sI I (c + 32) x) (sL L (c + 31) w) c t (ii ch) (ii (cntG D g ch l)) (ii l) = fX0_laneNext_b5 nf T N R q (sI I (c + 32) x) (sL L (c + 31) w) c t (ii ch) (ii (cntG D g ch (l + 1))) (ii (l + 1))
        rw [cntG_s, hcan, fX0_laneNext_b5]
        simp (disch := omega) only [↓nm_v, ↓tg, ↓rA, ↓chk_if, ↓reduceIte, inb_ii, ii_nat, ii_add, and_self, bi_zb, if_bi, if_bi1, ii_leT, ii_leF, ii_ltT, ii_ltF, ii_eqF, ii_m1F, ↓cb_2 hC, ↓cb_1 hC, ↓cb_3 hC, ↓cb_4 hC, ↓cb_5 hC, ↓cb_6 hC, ↓cb_7 hC, ↓cb_10 hC, ↓cb_17 hC, ↓cb_18 hC, ↓cb_19 hC, ↓cb_20 hC, ↓cb_21 hC, ↓cb_22 hC, ↓cb_23 hC, ↓cb_8 hC, ↓cb_9 hC, ↓cb_24 hC, ↓cb_16 hC, ↓cb29_0 hC, ↓cb29_1 hC, ↓sb_0 hS, ↓sb1_0 hS, ↓sb1_1 hS, ↓sb1_2 hS, ↓sb_1 hS, ↓sb_2 hS, ↓sb_3 hS, ↓sb_4 hS, ↓sb_5 hS, ↓sb_6 hS, ↓sb_7 hS, hC, hS, ↓bb_0 hB, ↓bb_1 hB, ↓bb_2 hB, hB, e0, hg0, eC, ↓bn_of eat, p1, Bool.false_eq_true]
        rfl
      · intro w' hw'
        rw [cntG_s, hcan] at hw'
        rw [pickG_s, hcan, if_neg (by simp)]
        exact hx w' hw'
    | true =>
      cases p2 : barG D g ch l with
      | true =>
        have hcan : canG D g ch l = false := by unfold canG; rw [p1, p2]; rfl
        refine ⟨(x, w2), ?_, ?_⟩
        · show fX0_laneNext_b5 nf T N R (q + 1) (sI I (c + 32) x) (sL L (c + 31) w) c t (ii ch) (ii (cntG D g ch l)) (ii l) = fX0_laneNext_b5 nf T N R q (sI I (c + 32) x) (sL L (c + 31) w2) c t (ii ch) (ii (cntG D g ch (l + 1))) (ii (l + 1))
          rw [cntG_s, hcan, fX0_laneNext_b5]
          simp (disch := omega) only [↓nm_v, ↓tg, ↓rA, ↓chk_if, ↓reduceIte, inb_ii, ii_nat, ii_add, and_self, bi_zb, if_bi, if_bi1, ii_leT, ii_leF, ii_ltT, ii_ltF, ii_eqF, ii_m1F, ↓cb_2 hC, ↓cb_1 hC, ↓cb_3 hC, ↓cb_4 hC, ↓cb_5 hC, ↓cb_6 hC, ↓cb_7 hC, ↓cb_10 hC, ↓cb_17 hC, ↓cb_18 hC, ↓cb_19 hC, ↓cb_20 hC, ↓cb_21 hC, ↓cb_22 hC, ↓cb_23 hC, ↓cb_8 hC, ↓cb_9 hC, ↓cb_24 hC, ↓cb_16 hC, ↓cb29_0 hC, ↓cb29_1 hC, ↓sb_0 hS, ↓sb1_0 hS, ↓sb1_1 hS, ↓sb1_2 hS, ↓sb_1 hS, ↓sb_2 hS, ↓sb_3 hS, ↓sb_4 hS, ↓sb_5 hS, ↓sb_6 hS, ↓sb_7 hS, hC, hS, ↓bb_0 hB, ↓bb_1 hB, ↓bb_2 hB, hB, e0, hg0, eC, ↓bn_of eat, p1, ↓b2_of e2, p2]
          rfl
        · intro w' hw'
          rw [cntG_s, hcan] at hw'
          rw [pickG_s, hcan, if_neg (by simp)]
          exact hx w' hw'
      | false =>
        have hcan : canG D g ch l = true := by unfold canG; rw [p1, p2]; rfl
        refine ⟨(upd x (cntG D g ch l) (ii l), w2), ?_, ?_⟩
        · show fX0_laneNext_b5 nf T N R (q + 1) (sI I (c + 32) x) (sL L (c + 31) w) c t (ii ch) (ii (cntG D g ch l)) (ii l) = fX0_laneNext_b5 nf T N R q (sI I (c + 32) (upd x (cntG D g ch l) (ii l))) (sL L (c + 31) w2) c t (ii ch) (ii (cntG D g ch (l + 1))) (ii (l + 1))
          rw [cntG_s, hcan, fX0_laneNext_b5]
          simp (disch := omega) only [↓nm_v, ↓tg, ↓rA, ↓chk_if, ↓reduceIte, inb_ii, ii_nat, ii_add, and_self, bi_zb, if_bi, if_bi1, ii_leT, ii_leF, ii_ltT, ii_ltF, ii_eqF, ii_m1F, ↓cb_2 hC, ↓cb_1 hC, ↓cb_3 hC, ↓cb_4 hC, ↓cb_5 hC, ↓cb_6 hC, ↓cb_7 hC, ↓cb_10 hC, ↓cb_17 hC, ↓cb_18 hC, ↓cb_19 hC, ↓cb_20 hC, ↓cb_21 hC, ↓cb_22 hC, ↓cb_23 hC, ↓cb_8 hC, ↓cb_9 hC, ↓cb_24 hC, ↓cb_16 hC, ↓cb29_0 hC, ↓cb29_1 hC, ↓sb_0 hS, ↓sb1_0 hS, ↓sb1_1 hS, ↓sb1_2 hS, ↓sb_1 hS, ↓sb_2 hS, ↓sb_3 hS, ↓sb_4 hS, ↓sb_5 hS, ↓sb_6 hS, ↓sb_7 hS, hC, hS, ↓bb_0 hB, ↓bb_1 hB, ↓bb_2 hB, hB, e0, hg0, eC, ↓bn_of eat, p1, ↓b2_of e2, p2, uI_sI, Bool.false_eq_true]
          rfl
        · intro w' hw'
          rw [cntG_s, hcan] at hw'
          have hw' : w' < cntG D g ch l + 1 := hw'
          rw [pickG_s, hcan]
          show upd x (cntG D g ch l) (ii l) w' = _
          rw [upd_at]
          by_cases p3 : w' = cntG D g ch l
          · rw [if_pos p3, if_pos ⟨rfl, p3.symm⟩]
          · rw [if_neg p3, if_neg (fun h => p3 h.2.symm)]
            exact hx w' (by omega)
  · rintro q ⟨x, w⟩ hx
    obtain ⟨h1, h2, h3⟩ := hh x
    have e0 := h2.1
    have hcl := cntG_le D g ch n
    show fX0_laneNext_b5 nf T N R (q + 1) (sI I (c + 32) x) (sL L (c + 31) w) c t (ii ch) (ii (cntG D g ch n)) (ii n) = _
    rw [fX0_laneNext_b5]
    by_cases p : cntG D g ch n = 0
    · simp (disch := omega) only [↓nm_v, ↓tg, ↓rA, ↓chk_if, ↓reduceIte, inb_ii, ii_nat, ii_add, and_self, bi_zb, if_bi, if_bi1, ii_leT, ii_leF, ii_ltT, ii_ltF, ii_eqF, ii_m1F, ↓cb_2 hC, ↓cb_1 hC, ↓cb_3 hC, ↓cb_4 hC, ↓cb_5 hC, ↓cb_6 hC, ↓cb_7 hC, ↓cb_10 hC, ↓cb_17 hC, ↓cb_18 hC, ↓cb_19 hC, ↓cb_20 hC, ↓cb_21 hC, ↓cb_22 hC, ↓cb_23 hC, ↓cb_8 hC, ↓cb_9 hC, ↓cb_24 hC, ↓cb_16 hC, ↓cb29_0 hC, ↓cb29_1 hC, ↓sb_0 hS, ↓sb1_0 hS, ↓sb1_1 hS, ↓sb1_2 hS, ↓sb_1 hS, ↓sb_2 hS, ↓sb_3 hS, ↓sb_4 hS, ↓sb_5 hS, ↓sb_6 hS, ↓sb_7 hS, hC, hS, e0, hg0, p]
    · have p' : (ii (cntG D g ch n) = ii 0) = False := eq_false (fun h => p ((ii_eq (by omega) (by omega)).mp h))
      simp (disch := omega) only [↓nm_v, ↓tg, ↓rA, ↓chk_if, ↓reduceIte, inb_ii, ii_nat, ii_add, and_self, bi_zb, if_bi, if_bi1, ii_leT, ii_leF, ii_ltT, ii_ltF, ii_eqF, ii_m1F, ↓cb_2 hC, ↓cb_1 hC, ↓cb_3 hC, ↓cb_4 hC, ↓cb_5 hC, ↓cb_6 hC, ↓cb_7 hC, ↓cb_10 hC, ↓cb_17 hC, ↓cb_18 hC, ↓cb_19 hC, ↓cb_20 hC, ↓cb_21 hC, ↓cb_22 hC, ↓cb_23 hC, ↓cb_8 hC, ↓cb_9 hC, ↓cb_24 hC, ↓cb_16 hC, ↓cb29_0 hC, ↓cb29_1 hC, ↓sb_0 hS, ↓sb1_0 hS, ↓sb1_1 hS, ↓sb1_2 hS, ↓sb_1 hS, ↓sb_2 hS, ↓sb_3 hS, ↓sb_4 hS, ↓sb_5 hS, ↓sb_6 hS, ↓sb_7 hS, hC, hS, e0, hg0, p, p', sI_at, not_false_eq_true, decide_true]
end
