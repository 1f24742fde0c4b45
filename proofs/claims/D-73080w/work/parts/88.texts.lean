/-! PLAIN LAND, 38: the model is told by its texts -/
theorem uI_uI (I : xI) (a k : Nat) (v w : Int32) : uI (uI I a k v) a k w = uI I a k w := by
  funext b
  by_cases q : b = a
  · subst q
    funext j
    rw [uI_at, uI_at, uI_at]
    split <;> rfl
  · rw [uI_ne q, uI_ne q, uI_ne q]
/-- what a leaf of a law is -/
def lfL (w : Nat → Int64) (o a : Nat) : Int64 := if o = 0 then jj a else w o
def b01 (b : Bool) : Int64 := if b then jj 1 else jj 0
abbrev TDen : Type := (Nat → Int64) → Option Bool
theorem seg_run {op ar : Nat → Nat} {lf : Nat → Nat → Int64} {k0 k1 : Nat} {d : Option Int64} (h : Seg op ar lf k0 k1 d) (st : Nat → Int64) :
    (∃ x st', d = some x ∧ lp op ar lf k1 (1 + (k1 - k0)) k0 0 st = some (some (1, st')) ∧ st' 0 = x) ∨ (d = none ∧ lp op ar lf k1 (1 + (k1 - k0)) k0 0 st = some none) := by
  rcases h.2 k1 1 0 st (Nat.le_refl _) with ⟨x, f', st', e, h1, h2, h3, _⟩ | ⟨e, h2⟩
  · refine Or.inl ⟨x, st', e, ?_, h3⟩
    rw [h2]
    obtain ⟨z, rfl⟩ : ∃ z, f' = z + 1 := ⟨f' - 1, by omega⟩
    unfold lp
    rw [if_pos (Nat.le_refl _)]
  · exact Or.inr ⟨e, h2⟩
/-- only what reckoning leaves behind -/
def rS (m : Nat) (L L' : xL) : Prop := (∀ a, a ≠ m → a ≠ m + 20 → L' a = L a) ∧ (∀ j, j ≠ 39 → L' m j = L m j)
section
variable {T N : xT} {R : xR} {I : xI} {L : xL} {m n k nf lw k0 k1 : Nat} {op ar : Nat → Nat} {lf : Nat → Nat → Int64} {d : Option Int64}
/-- the loop's outcome out of a segment -/
theorem m_reckG (hM : MSh m T N R) (h38 : I m 38 = ii 0) (hk1 : k1 ≤ 400) (hop : ∀ k, k < k1 → op k < 31 ∧ ar k < 1000) (hnf : 402 < nf)
    (hF : ∀ q k n st, k < k1 → n ≤ k → fX5_reckonAll_b10 nf T N R (q + 1) I (sL L (m + 20) st) m (ii k1) (ii n) (ii k) = fX5_reckonAll_b95 nf (fX5_reckonAll_b10 nf T N R q) T N I (sL L (m + 20) st) R m (ii k1) (ii n) (ii k) (ii (op k)) (ii (ar k)))
    (hlf : ∀ kk k n st, k < k1 → n ≤ k → op k < 20 → fX5_reckonAll_b95 nf kk T N I (sL L (m + 20) st) R m (ii k1) (ii n) (ii k) (ii (op k)) (ii (ar k)) = kk I (sL L (m + 20) (vp_updL st n (lf (op k) (ar k)))) m (ii k1) (ii (n + 1)) (ii (k + 1)))
    (hs : Seg op ar lf k0 k1 d) :
    ∃ L', fX5_reckonAll_b10 nf T N R nf I L m (ii k1) (ii 0) (ii k0) = some (uI I m 38 (bi d.isNone), L') ∧ (∀ x, d = some x → L' m 39 = x) ∧ rS m L L' := by
  obtain ⟨q, rfl⟩ : ∃ z, nf = z + 1 := ⟨nf - 1, by omega⟩
  have hk01 := hs.1
  rcases seg_run hs (L (m + 20)) with ⟨x, st', e, h1, h2⟩ | ⟨e, h1⟩
  · have := (m_lpG hM h38 hk1 hop hF hlf _ _ _ _ _ q h1 (by omega) (by omega) (by omega)).2 1 st' rfl
    rw [sL_id] at this
    subst e
    refine ⟨uL (sL L (m + 20) st') m 39 (if 1 = 0 then jj 0 else st' 0), ?_, ?_, ?_⟩
    · rw [Option.isNone_some, bi_f, uI_id h38]
      exact this
    · intro y hy
      cases hy
      rw [uL_at, if_pos rfl, if_neg (by omega), h2]
    · exact ⟨fun a a1 a2 => by rw [uL_ne a1, sL_ne a2], fun j hj => by rw [uL_at, if_neg hj, sL_ne (by omega)]⟩
  · obtain ⟨st', v, this⟩ := (m_lpG hM h38 hk1 hop hF hlf _ _ _ _ _ q h1 (by omega) (by omega) (by omega)).1 rfl
    rw [sL_id] at this
    subst e
    refine ⟨uL (sL L (m + 20) st') m 39 v, this, ?_, ?_⟩
    · intro y hy
      cases hy
    · exact ⟨fun a a1 a2 => by rw [uL_ne a1, sL_ne a2], fun j hj => by rw [uL_at, if_neg hj, sL_ne (by omega)]⟩
/-- code of a law in the row -/
theorem m_reckL (hM : MSh m T N R) (h20 : I m 20 = ii 0) (h34 : I m 34 = ii lw) (hlw : lw + 98 + 2 * k1 ≤ 5476) (hk1 : k1 ≤ 400) (hop : ∀ k, k < k1 → op k < 31 ∧ ar k < 1000 ∧ (op k < 20 → op k < 13)) (hnf : 402 < nf)
    (hc : ∀ k, k < k1 → I (m + 2) (lw + 98 + 2 * k) = ii (op k) ∧ I (m + 2) (lw + 98 + 2 * k + 1) = ii (ar k)) (hs : Seg op ar (lfL (L (m + 18))) k0 k1 d) :
    ∃ L', fX5_reckonAll nf T N I L R m (ii k0) (ii k1) = some (uI I m 38 (bi d.isNone), L') ∧ (∀ x, d = some x → L' m 39 = x) ∧ rS m L L' := by
  have e38 : uI I m 38 (ii 0) m 38 = ii 0 := uI_hit _ _ _ _
  have e20 : uI I m 38 (ii 0) m 20 = ii 0 := by rw [uI_mis (by omega)]; exact h20
  have e34 : uI I m 38 (ii 0) m 34 = ii lw := by rw [uI_mis (by omega)]; exact h34
  have ec : ∀ k, k < k1 → uI I m 38 (ii 0) (m + 2) (lw + 98 + 2 * k) = ii (op k) ∧ uI I m 38 (ii 0) (m + 2) (lw + 98 + 2 * k + 1) = ii (ar k) := by
    intro k hk
    rw [uI_ne (by omega)]
    exact hc k hk
  have key : ∃ L', fX5_reckonAll_b10 nf T N R nf (uI I m 38 (ii 0)) L m (ii k1) (ii 0) (ii k0) = some (uI (uI I m 38 (ii 0)) m 38 (bi d.isNone), L') ∧ (∀ x, d = some x → L' m 39 = x) ∧ rS m L L' := by
    generalize uI I m 38 (ii 0) = J at *
    refine m_reckG hM e38 hk1 (fun k hk => ⟨(hop k hk).1, (hop k hk).2.1⟩) hnf (lf := lfL (L (m + 18))) ?_ ?_ hs
    · intro q k n st hk hn
      obtain ⟨c1, c2⟩ := ec k hk
      rw [fX5_reckonAll_b10]
      simp (disch := omega) only [↓nm_v, ↓tg, ↓rA, ↓chk_if, ↓reduceIte, inb_ii, ii_nat, ii_add, and_self, bi_zb, if_bi, if_bi1, ii_leT, ii_leF, ii_ltT, ii_ltF, ii_eqF, ii_m1F, ↓mb_2 hM, ↓mb_3 hM, ↓mb_4 hM, ↓mb_5 hM, ↓mb_6 hM, ↓mb_7 hM, ↓mb_9 hM, ↓mb_10 hM, ↓mb_12 hM, ↓mb_22 hM, ↓mb_24 hM, ↓mb_25 hM, ↓mb_27 hM, ↓mb_28 hM, ↓mb_31 hM, ↓mb_32 hM, ↓mb_33 hM, ↓mb_35 hM, ↓mb_36 hM, ↓mb_37 hM, ↓mb_41 hM, ↓mb_42 hM, ↓mb_43 hM, ↓mb_44 hM, ↓mb_45 hM, ↓mb_46 hM, ↓mb_47 hM, ↓mb_48 hM, ↓mb_49 hM, ↓mb_55 hM, hM, e38, e20, e34, ii_mul, c1, fX5_reckonAll_b57, c2]
    · intro kk k n st hk hn ho
      obtain ⟨o1, o2, o3⟩ := hop k hk
      have o3 := o3 ho
      unfold fX5_reckonAll_b95
      by_cases q : op k = 0
      · have : lfL (L (m + 18)) (op k) (ar k) = jj (ar k) := if_pos q
        rw [this]
        simp (disch := omega) only [↓nm_v, ↓tg, ↓rA, ↓chk_if, ↓reduceIte, inb_ii, ii_nat, ii_add, and_self, bi_zb, if_bi, if_bi1, ii_leT, ii_leF, ii_ltT, ii_ltF, ii_eqF, ii_m1F, ↓mb_2 hM, ↓mb_3 hM, ↓mb_4 hM, ↓mb_5 hM, ↓mb_6 hM, ↓mb_7 hM, ↓mb_9 hM, ↓mb_10 hM, ↓mb_12 hM, ↓mb_22 hM, ↓mb_24 hM, ↓mb_25 hM, ↓mb_27 hM, ↓mb_28 hM, ↓mb_31 hM, ↓mb_32 hM, ↓mb_33 hM, ↓mb_35 hM, ↓mb_36 hM, ↓mb_37 hM, ↓mb_41 hM, ↓mb_42 hM, ↓mb_43 hM, ↓mb_44 hM, ↓mb_45 hM, ↓mb_46 hM, ↓mb_47 hM, ↓mb_48 hM, ↓mb_49 hM, ↓mb_55 hM, hM, q, ii_64, uL_sL]
      · have : lfL (L (m + 18)) (op k) (ar k) = L (m + 18) (op k) := if_neg q
        rw [this]
        simp (disch := omega) only [↓nm_v, ↓tg, ↓rA, ↓chk_if, ↓reduceIte, inb_ii, ii_nat, ii_add, and_self, bi_zb, if_bi, if_bi1, ii_leT, ii_leF, ii_ltT, ii_ltF, ii_eqF, ii_m1F, ↓mb_2 hM, ↓mb_3 hM, ↓mb_4 hM, ↓mb_5 hM, ↓mb_6 hM, ↓mb_7 hM, ↓mb_9 hM, ↓mb_10 hM, ↓mb_12 hM, ↓mb_22 hM, ↓mb_24 hM, ↓mb_25 hM, ↓mb_27 hM, ↓mb_28 hM, ↓mb_31 hM, ↓mb_32 hM, ↓mb_33 hM, ↓mb_35 hM, ↓mb_36 hM, ↓mb_37 hM, ↓mb_41 hM, ↓mb_42 hM, ↓mb_43 hM, ↓mb_44 hM, ↓mb_45 hM, ↓mb_46 hM, ↓mb_47 hM, ↓mb_48 hM, ↓mb_49 hM, ↓mb_55 hM, hM, q, e20, uL_sL, sL_ne]
  rw [uI_uI] at key
  unfold fX5_reckonAll
  simp (disch := omega) only [↓nm_v, ↓tg, ↓rA, ↓chk_if, ↓reduceIte, inb_ii, ii_nat, ii_add, and_self, bi_zb, if_bi, if_bi1, ii_leT, ii_leF, ii_ltT, ii_ltF, ii_eqF, ii_m1F, ↓mb_2 hM, ↓mb_3 hM, ↓mb_4 hM, ↓mb_5 hM, ↓mb_6 hM, ↓mb_7 hM, ↓mb_9 hM, ↓mb_10 hM, ↓mb_12 hM, ↓mb_22 hM, ↓mb_24 hM, ↓mb_25 hM, ↓mb_27 hM, ↓mb_28 hM, ↓mb_31 hM, ↓mb_32 hM, ↓mb_33 hM, ↓mb_35 hM, ↓mb_36 hM, ↓mb_37 hM, ↓mb_41 hM, ↓mb_42 hM, ↓mb_43 hM, ↓mb_44 hM, ↓mb_45 hM, ↓mb_46 hM, ↓mb_47 hM, ↓mb_48 hM, ↓mb_49 hM, ↓mb_55 hM, hM]
  exact key
end
/-- whether a clause's test holds -/
def tOK (td : Option TDen) (v : Nat → Int64) : Bool := match td with
  | none => true
  | some t => decide (t v = some true)
/-- what a clause tells -/
def clV (hd : Nat) (sd : Den) (td : Option TDen) : Den := fun v => if tOK td v = true then (if hd = 2 then some (jj 1) else sd v) else none
/-- the i-th clause of the text at lw in the row g -/
def ClM (g : Nat → Int32) (op ar : Nat → Nat) (lw nc i hd : Nat) (sd : Den) (td : Option TDen) : Prop :=
  g (lw + 2 + 8 * i) = ii hd ∧ hd < 3 ∧ ∃ s0 s1 t0 t1, g (lw + 2 + 8 * i + 3) = ii s0 ∧ g (lw + 2 + 8 * i + 4) = ii s1 ∧ g (lw + 2 + 8 * i + 5) = ii t0 ∧ g (lw + 2 + 8 * i + 6) = ii t1 ∧ s1 ≤ nc ∧ t1 ≤ nc ∧ t0 ≤ nc ∧
    (hd ≠ 2 → ∀ v, Seg op ar (lfL v) s0 s1 (sd fun j => v (j + 1))) ∧ (match td with
      | none => t1 ≤ t0
      | some t => ∀ v, Seg op ar (lfL v) t0 t1 ((t fun j => v (j + 1)).map b01))
theorem b01_0 (b : Bool) : (b01 b = jj 0) = (b = false) := by cases b <;> decide
section
variable {T N : xT} {R : xR} {I : xI} {L : xL} {m n k nf lw i nc hd : Nat} {op ar : Nat → Nat} {sd : Den} {td : Option TDen}
theorem m_isSo (hM : MSh m T N R) (h20 : I m 20 = ii 0) (h34 : I m 34 = ii lw) (hlw : lw + 98 + 2 * nc ≤ 5476) (hnc : nc ≤ 400) (hop : ∀ k, k < nc → op k < 31 ∧ ar k < 1000 ∧ (op k < 20 → op k < 13)) (hnf : 402 < nf)
    (hc : ∀ k, k < nc → I (m + 2) (lw + 98 + 2 * k) = ii (op k) ∧ I (m + 2) (lw + 98 + 2 * k + 1) = ii (ar k)) (hi : i < 12) (hcl : ClM (I (m + 2)) op ar lw nc i hd sd td) (hlw2 : lw + 98 ≤ 5476) :
    ∃ I' L', fX5_isSo nf T N I L R m (ii (lw + 2 + 8 * i)) = some (bi (clV hd sd td fun j => L (m + 18) (j + 1)).isSome, I', L') ∧ (∀ x, clV hd sd td (fun j => L (m + 18) (j + 1)) = some x → hd ≠ 2 → L' m 40 = x) ∧ mSc m I I' L L' ∧ L' (m + 18) = L (m + 18) ∧ I' m 34 = I m 34 := by
  obtain ⟨c1, c2, s0, s1, t0, t1, c3, c4, c5, c6, c7, c8, c9, c10, c11⟩ := hcl
  -- behind the test
  have body : ∀ J M, mSc m I J L M → M (m + 18) = L (m + 18) → J m 34 = I m 34 → ∃ I' L', fX5_isSo_b59 nf T N J M R m (ii (lw + 2 + 8 * i)) = some (bi (if hd = 2 then some (jj 1) else sd fun j => L (m + 18) (j + 1)).isSome, I', L') ∧ (∀ x, (if hd = 2 then some (jj 1) else sd fun j => L (m + 18) (j + 1)) = some x → hd ≠ 2 → L' m 40 = x) ∧ mSc m I I' L L' ∧ L' (m + 18) = L (m + 18) ∧ I' m 34 = I m 34 := by
    intro J M hJ hM18 hJ34
    have eg : J (m + 2) = I (m + 2) := hJ.1 _ (by omega)
    by_cases q : hd = 2
    · refine ⟨J, M, ?_, fun x _ h => absurd q h, hJ, hM18, hJ34⟩
      unfold fX5_isSo_b59
      simp (disch := omega) only [↓nm_v, ↓tg, ↓rA, ↓chk_if, ↓reduceIte, inb_ii, ii_nat, ii_add, and_self, bi_zb, if_bi, if_bi1, ii_leT, ii_leF, ii_ltT, ii_ltF, ii_eqF, ii_m1F, ↓mb_2 hM, ↓mb_3 hM, ↓mb_4 hM, ↓mb_5 hM, ↓mb_6 hM, ↓mb_7 hM, ↓mb_9 hM, ↓mb_10 hM, ↓mb_12 hM, ↓mb_22 hM, ↓mb_24 hM, ↓mb_25 hM, ↓mb_27 hM, ↓mb_28 hM, ↓mb_31 hM, ↓mb_32 hM, ↓mb_33 hM, ↓mb_35 hM, ↓mb_36 hM, ↓mb_37 hM, ↓mb_41 hM, ↓mb_42 hM, ↓mb_43 hM, ↓mb_44 hM, ↓mb_45 hM, ↓mb_46 hM, ↓mb_47 hM, ↓mb_48 hM, ↓mb_49 hM, ↓mb_55 hM, hM, eg, c1, q, Option.isSome_some, bi_t]
    · rw [if_neg q]
      obtain ⟨M', e, e2, e3⟩ := m_reckL (I := J) (L := M) (k0 := s0) (k1 := s1) (op := op) (ar := ar) (lw := lw) (d := sd fun j => L (m + 18) (j + 1)) hM ((hJ.2.1 20 (by omega) (by omega)).trans h20) (hJ34.trans h34) (by omega) (by omega) (fun k hk => hop k (by omega)) hnf (fun k hk => by rw [eg]; exact hc k (by omega)) (by rw [hM18]; exact c10 q _)
      refine ⟨uI J m 38 (bi (sd fun j => L (m + 18) (j + 1)).isNone), uL M' m 40 (M' m 39), ?_, ?_, ?_, ?_, ?_⟩
      · unfold fX5_isSo_b59
        simp (disch := omega) only [↓nm_v, ↓tg, ↓rA, ↓chk_if, ↓reduceIte, inb_ii, ii_nat, ii_add, and_self, bi_zb, if_bi, if_bi1, ii_leT, ii_leF, ii_ltT, ii_ltF, ii_eqF, ii_m1F, ↓mb_2 hM, ↓mb_3 hM, ↓mb_4 hM, ↓mb_5 hM, ↓mb_6 hM, ↓mb_7 hM, ↓mb_9 hM, ↓mb_10 hM, ↓mb_12 hM, ↓mb_22 hM, ↓mb_24 hM, ↓mb_25 hM, ↓mb_27 hM, ↓mb_28 hM, ↓mb_31 hM, ↓mb_32 hM, ↓mb_33 hM, ↓mb_35 hM, ↓mb_36 hM, ↓mb_37 hM, ↓mb_41 hM, ↓mb_42 hM, ↓mb_43 hM, ↓mb_44 hM, ↓mb_45 hM, ↓mb_46 hM, ↓mb_47 hM, ↓mb_48 hM, ↓mb_49 hM, ↓mb_55 hM, hM, eg, c1, q, c3, c4, ↓b2_of e, uI_hit]
        cases (sd fun j => L (m + 18) (j + 1)) <;> rfl
      · intro x hx _
        rw [uL_at, if_pos rfl]
        exact e2 x hx
      · refine ⟨fun a ha => ?_, fun j j1 j2 => ?_, fun a a1 a2 a3 => ?_, fun j j1 j2 => ?_⟩
        · rw [uI_ne ha]; exact hJ.1 a ha
        · rw [uI_mis j2]; exact hJ.2.1 j j1 j2
        · rw [uL_ne a1, e3.1 a a1 a3]; exact hJ.2.2.1 a a1 a2 a3
        · rw [uL_at, if_neg j2, e3.2 j j1]; exact hJ.2.2.2 j j1 j2
      · rw [uL_ne (by omega), e3.1 _ (by omega) (by omega)]; exact hM18
      · rw [uI_mis (by omega)]; exact hJ34
  unfold fX5_isSo clV tOK
  cases td with
  | none =>
    have c11 : t1 ≤ t0 := c11
    obtain ⟨I', L', e, e2⟩ := body I L (mSc_refl _ _ _) rfl rfl
    refine ⟨I', L', ?_, ?_⟩
    · simp (disch := omega) only [↓nm_v, ↓tg, ↓rA, ↓chk_if, ↓reduceIte, inb_ii, ii_nat, ii_add, and_self, bi_zb, if_bi, if_bi1, ii_leT, ii_leF, ii_ltT, ii_ltF, ii_eqF, ii_m1F, ↓mb_2 hM, ↓mb_3 hM, ↓mb_4 hM, ↓mb_5 hM, ↓mb_6 hM, ↓mb_7 hM, ↓mb_9 hM, ↓mb_10 hM, ↓mb_12 hM, ↓mb_22 hM, ↓mb_24 hM, ↓mb_25 hM, ↓mb_27 hM, ↓mb_28 hM, ↓mb_31 hM, ↓mb_32 hM, ↓mb_33 hM, ↓mb_35 hM, ↓mb_36 hM, ↓mb_37 hM, ↓mb_41 hM, ↓mb_42 hM, ↓mb_43 hM, ↓mb_44 hM, ↓mb_45 hM, ↓mb_46 hM, ↓mb_47 hM, ↓mb_48 hM, ↓mb_49 hM, ↓mb_55 hM, hM, c5, c6, e]
    · simpa using e2
  | some t =>
    have c11 : ∀ v, Seg op ar (lfL v) t0 t1 ((t fun j => v (j + 1)).map b01) := c11
    have h01 := (c11 (L (m + 18))).1
    obtain ⟨M', e, e2, e3⟩ := m_reckL (I := I) (L := L) (k0 := t0) (k1 := t1) (op := op) (ar := ar) (lw := lw) (d := (t fun j => L (m + 18) (j + 1)).map b01) hM h20 h34 (by omega) (by omega) (fun k hk => hop k (by omega)) hnf (fun k hk => hc k (by omega)) (c11 _)
    have sc : mSc m I (uI I m 38 (bi ((t fun j => L (m + 18) (j + 1)).map b01).isNone)) L M' := ⟨fun a ha => uI_ne ha, fun j _ j2 => uI_mis j2, fun a a1 a2 a3 => e3.1 a a1 a3, fun j j1 _ => e3.2 j j1⟩
    have e18 : M' (m + 18) = L (m + 18) := e3.1 _ (by omega) (by omega)
    have e34 : uI I m 38 (bi ((t fun j => L (m + 18) (j + 1)).map b01).isNone) m 34 = I m 34 := uI_mis (by omega)
    cases ht : (t fun j => L (m + 18) (j + 1)) with
    | none =>
      rw [ht] at e sc e34
      refine ⟨_, M', ?_, ?_, sc, e18, e34⟩
      · simp (disch := omega) only [↓nm_v, ↓tg, ↓rA, ↓chk_if, ↓reduceIte, inb_ii, ii_nat, ii_add, and_self, bi_zb, if_bi, if_bi1, ii_leT, ii_leF, ii_ltT, ii_ltF, ii_eqF, ii_m1F, ↓mb_2 hM, ↓mb_3 hM, ↓mb_4 hM, ↓mb_5 hM, ↓mb_6 hM, ↓mb_7 hM, ↓mb_9 hM, ↓mb_10 hM, ↓mb_12 hM, ↓mb_22 hM, ↓mb_24 hM, ↓mb_25 hM, ↓mb_27 hM, ↓mb_28 hM, ↓mb_31 hM, ↓mb_32 hM, ↓mb_33 hM, ↓mb_35 hM, ↓mb_36 hM, ↓mb_37 hM, ↓mb_41 hM, ↓mb_42 hM, ↓mb_43 hM, ↓mb_44 hM, ↓mb_45 hM, ↓mb_46 hM, ↓mb_47 hM, ↓mb_48 hM, ↓mb_49 hM, ↓mb_55 hM, hM, c5, c6, ↓b2_of e, uI_hit, Option.map_none, Option.isNone_none, bi_t, ht]
        rfl
      · intro x hx
        simp [ht] at hx
    | some b =>
      rw [ht] at e sc e34 e2
      have e39 := e2 (b01 b) rfl
      cases b with
      | false =>
        refine ⟨_, M', ?_, ?_, sc, e18, e34⟩
        · simp (disch := omega) only [↓nm_v, ↓tg, ↓rA, ↓chk_if, ↓reduceIte, inb_ii, ii_nat, ii_add, and_self, bi_zb, if_bi, if_bi1, ii_leT, ii_leF, ii_ltT, ii_ltF, ii_eqF, ii_m1F, ↓mb_2 hM, ↓mb_3 hM, ↓mb_4 hM, ↓mb_5 hM, ↓mb_6 hM, ↓mb_7 hM, ↓mb_9 hM, ↓mb_10 hM, ↓mb_12 hM, ↓mb_22 hM, ↓mb_24 hM, ↓mb_25 hM, ↓mb_27 hM, ↓mb_28 hM, ↓mb_31 hM, ↓mb_32 hM, ↓mb_33 hM, ↓mb_35 hM, ↓mb_36 hM, ↓mb_37 hM, ↓mb_41 hM, ↓mb_42 hM, ↓mb_43 hM, ↓mb_44 hM, ↓mb_45 hM, ↓mb_46 hM, ↓mb_47 hM, ↓mb_48 hM, ↓mb_49 hM, ↓mb_55 hM, hM, c5, c6, ↓b2_of e, uI_hit, Option.map_some, Option.isNone_some, bi_f, e39, b01_0, ht]
          rfl
        · intro x hx
          simp [ht] at hx
      | true =>
        obtain ⟨I', L', r1, r2, r3, r4⟩ := body _ M' sc e18 e34
        refine ⟨I', L', ?_, ?_, r3, r4⟩
        · simp (disch := omega) only [↓nm_v, ↓tg, ↓rA, ↓chk_if, ↓reduceIte, inb_ii, ii_nat, ii_add, and_self, bi_zb, if_bi, if_bi1, ii_leT, ii_leF, ii_ltT, ii_ltF, ii_eqF, ii_m1F, ↓mb_2 hM, ↓mb_3 hM, ↓mb_4 hM, ↓mb_5 hM, ↓mb_6 hM, ↓mb_7 hM, ↓mb_9 hM, ↓mb_10 hM, ↓mb_12 hM, ↓mb_22 hM, ↓mb_24 hM, ↓mb_25 hM, ↓mb_27 hM, ↓mb_28 hM, ↓mb_31 hM, ↓mb_32 hM, ↓mb_33 hM, ↓mb_35 hM, ↓mb_36 hM, ↓mb_37 hM, ↓mb_41 hM, ↓mb_42 hM, ↓mb_43 hM, ↓mb_44 hM, ↓mb_45 hM, ↓mb_46 hM, ↓mb_47 hM, ↓mb_48 hM, ↓mb_49 hM, ↓mb_55 hM, hM, c5, c6, ↓b2_of e, uI_hit, Option.map_some, Option.isNone_some, bi_f, e39, b01_0, Bool.true_eq_false, ht, decide_true]
          exact r1
        · intro x hx hne
          exact r2 x (by simpa [ht] using hx) hne
end
/-- a law: of the clauses with this head the last that tells -/
def lawS (hd : Nat → Nat) (sd : Nat → Den) (td : Nat → Option TDen) (h : Nat) (v : Nat → Int64) (i : Nat) (a : Option Int64) : Option Int64 := if hd i = h then (clV (hd i) (sd i) (td i) v).or a else a
def lawD (nc : Nat) (hd : Nat → Nat) (sd : Nat → Den) (td : Nat → Option TDen) : Nat → Den := fun h v => rngF (lawS hd sd td h v) nc 0 none
/-- the text at lw in the row g is this law -/
def TextM (g : Nat → Int32) (lw : Nat) (d : Nat → Den) : Prop := ∃ nl nc op ar hd sd td, d = lawD nl hd sd td ∧ g (lw + 1) = ii nl ∧ nl ≤ 12 ∧ nc ≤ 400 ∧ (∀ k, k < nc → op k < 31 ∧ ar k < 1000 ∧ (op k < 20 → op k < 13)) ∧
  (∀ k, k < nc → g (lw + 98 + 2 * k) = ii (op k) ∧ g (lw + 98 + 2 * k + 1) = ii (ar k)) ∧ ∀ i, i < nl → ClM g op ar lw nc i (hd i) (sd i) (td i)
theorem TextM_of {g g' : Nat → Int32} {lw : Nat} {d : Nat → Den} (h : TextM g lw d) (e : ∀ j, lw ≤ j → j < lw + 900 → g' j = g j) : TextM g' lw d := by
  obtain ⟨nl, nc, op, ar, hd, sd, td, h1, h2, h3, h4, h5, h6, h7⟩ := h
  refine ⟨nl, nc, op, ar, hd, sd, td, h1, by rw [e _ (by omega) (by omega)]; exact h2, h3, h4, h5, fun k hk => ?_, fun i hi => ?_⟩
  · rw [e _ (by omega) (by omega), e _ (by omega) (by omega)]
    exact h6 k hk
  · obtain ⟨c1, c2, s0, s1, t0, t1, c3, c4, c5, c6, c7⟩ := h7 i hi
    exact ⟨by rw [e _ (by omega) (by omega)]; exact c1, c2, s0, s1, t0, t1, by rw [e _ (by omega) (by omega)]; exact c3, by rw [e _ (by omega) (by omega)]; exact c4, by rw [e _ (by omega) (by omega)]; exact c5, by rw [e _ (by omega) (by omega)]; exact c6, c7⟩
section
variable {T N : xT} {R : xR} {I : xI} {L : xL} {m n k nf lw : Nat}
theorem m_tellsL (hM : MSh m T N R) (h20 : I m 20 = ii 0) (h34 : I m 34 = ii lw) (hlw : lw + 900 ≤ 5476) (hnf : 402 < nf) {d : Nat → Den} (ht : TextM (I (m + 2)) lw d) {h : Nat} (hh : h < 3) (wo : Int64) :
    ∃ I' L', fX5_tells_b186 nf T N R nf I L m (ii h) wo (ii 0) = some ((d h fun j => L (m + 18) (j + 1)).getD wo, I', L') ∧ mSc m I I' L L' := by
  obtain ⟨nl, nc, op, ar, hd, sd, td, rfl, t2, t3, t4, t5, t6, t7⟩ := ht
  have := loop_rel (fun q (p : Option Int64 × xI × xL) i => fX5_tells_b186 nf T N R q p.2.1 p.2.2 m (ii h) (p.1.getD wo) (ii i)) (fun i p => p.1 = rngF (lawS hd sd td h fun j => L (m + 18) (j + 1)) i 0 none ∧ mSc m I p.2.1 L p.2.2 ∧ p.2.2 (m + 18) = L (m + 18) ∧ p.2.1 m 34 = I m 34) nl (fun p => some (p.1.getD wo, p.2.1, p.2.2)) ?_ ?_ nl 0 (none, I, L) nf (by omega) (by omega) ⟨rfl, mSc_refl _ _ _, rfl, rfl⟩
  · obtain ⟨⟨o, J, M⟩, e, h1, h2, h3⟩ := this
    refine ⟨J, M, ?_, h2⟩
    have h1 : o = _ := h1
    unfold lawD
    rw [← h1]
    exact e
  · rintro q ⟨o, J, M⟩ i hi ⟨h1, h2, h3, h4⟩
    have h1 : o = _ := h1
    have h2 : mSc m I J L M := h2
    have h3 : M (m + 18) = L (m + 18) := h3
    have h4 : J m 34 = I m 34 := h4
    have eg : J (m + 2) = I (m + 2) := h2.1 _ (by omega)
    have c := t7 i hi
    have c1 := c.1
    have e34 := h4.trans h34
    have e20 : J m 20 = ii 0 := (h2.2.1 20 (by omega) (by omega)).trans h20
    have c2 := c.2.1
    by_cases p : hd i = h
    · obtain ⟨J', M', e, r1, r2, r3, r4⟩ := m_isSo (I := J) (L := M) (lw := lw) (i := i) hM e20 e34 (by omega) t4 t5 hnf (by rw [eg]; exact t6) (by omega) (by rw [eg]; exact c) (by omega)
      rw [h3] at e r1
      refine ⟨((clV (hd i) (sd i) (td i) fun j => L (m + 18) (j + 1)).or o, J', M'), ?_, ?_, mSc_trans h2 r2, r3.trans h3, r4.trans h4⟩
      · show fX5_tells_b186 nf T N R (q + 1) J M m (ii h) (o.getD wo) (ii i) = fX5_tells_b186 nf T N R q J' M' m (ii h) (((clV (hd i) (sd i) (td i) fun j => L (m + 18) (j + 1)).or o).getD wo) (ii (i + 1))
        rw [fX5_tells_b186]
        rw [p] at e r1 c1 ⊢
        cases hv : (clV h (sd i) (td i) fun j => L (m + 18) (j + 1)) with
        | none =>
          rw [hv] at e
          simp (disch := omega) only [↓nm_v, ↓tg, ↓rA, ↓chk_if, ↓reduceIte, inb_ii, ii_nat, ii_add, and_self, bi_zb, if_bi, if_bi1, ii_leT, ii_leF, ii_ltT, ii_ltF, ii_eqF, ii_m1F, ↓mb_2 hM, ↓mb_3 hM, ↓mb_4 hM, ↓mb_5 hM, ↓mb_6 hM, ↓mb_7 hM, ↓mb_9 hM, ↓mb_10 hM, ↓mb_12 hM, ↓mb_22 hM, ↓mb_24 hM, ↓mb_25 hM, ↓mb_27 hM, ↓mb_28 hM, ↓mb_31 hM, ↓mb_32 hM, ↓mb_33 hM, ↓mb_35 hM, ↓mb_36 hM, ↓mb_37 hM, ↓mb_41 hM, ↓mb_42 hM, ↓mb_43 hM, ↓mb_44 hM, ↓mb_45 hM, ↓mb_46 hM, ↓mb_47 hM, ↓mb_48 hM, ↓mb_49 hM, ↓mb_55 hM, hM, eg, e34, t2, ii_mul, c1, ↓b3_of e, Option.isSome_none, bi_f, Option.none_or]
        | some x =>
          rw [hv] at e r1
          by_cases p2 : h = 2
          · have hx : x = jj 1 := by
              rw [p2] at hv
              unfold clV at hv
              split at hv
              · rw [if_pos rfl] at hv; cases hv; rfl
              · cases hv
            simp (disch := omega) only [↓nm_v, ↓tg, ↓rA, ↓chk_if, ↓reduceIte, inb_ii, ii_nat, ii_add, and_self, bi_zb, if_bi, if_bi1, ii_leT, ii_leF, ii_ltT, ii_ltF, ii_eqF, ii_m1F, ↓mb_2 hM, ↓mb_3 hM, ↓mb_4 hM, ↓mb_5 hM, ↓mb_6 hM, ↓mb_7 hM, ↓mb_9 hM, ↓mb_10 hM, ↓mb_12 hM, ↓mb_22 hM, ↓mb_24 hM, ↓mb_25 hM, ↓mb_27 hM, ↓mb_28 hM, ↓mb_31 hM, ↓mb_32 hM, ↓mb_33 hM, ↓mb_35 hM, ↓mb_36 hM, ↓mb_37 hM, ↓mb_41 hM, ↓mb_42 hM, ↓mb_43 hM, ↓mb_44 hM, ↓mb_45 hM, ↓mb_46 hM, ↓mb_47 hM, ↓mb_48 hM, ↓mb_49 hM, ↓mb_55 hM, hM, eg, e34, t2, ii_mul, c1, ↓b3_of e, Option.isSome_some, bi_t, p2, Option.some_or, Option.getD_some, hx]
          · have hx := r1 x rfl p2
            simp (disch := omega) only [↓nm_v, ↓tg, ↓rA, ↓chk_if, ↓reduceIte, inb_ii, ii_nat, ii_add, and_self, bi_zb, if_bi, if_bi1, ii_leT, ii_leF, ii_ltT, ii_ltF, ii_eqF, ii_m1F, ↓mb_2 hM, ↓mb_3 hM, ↓mb_4 hM, ↓mb_5 hM, ↓mb_6 hM, ↓mb_7 hM, ↓mb_9 hM, ↓mb_10 hM, ↓mb_12 hM, ↓mb_22 hM, ↓mb_24 hM, ↓mb_25 hM, ↓mb_27 hM, ↓mb_28 hM, ↓mb_31 hM, ↓mb_32 hM, ↓mb_33 hM, ↓mb_35 hM, ↓mb_36 hM, ↓mb_37 hM, ↓mb_41 hM, ↓mb_42 hM, ↓mb_43 hM, ↓mb_44 hM, ↓mb_45 hM, ↓mb_46 hM, ↓mb_47 hM, ↓mb_48 hM, ↓mb_49 hM, ↓mb_55 hM, hM, eg, e34, t2, ii_mul, c1, ↓b3_of e, Option.isSome_some, bi_t, p2, Option.some_or, Option.getD_some, hx]
      · show _ = rngF _ (i + 1) 0 none
        rw [rngF_s, ← h1]
        unfold lawS
        rw [if_pos p]
    · refine ⟨(o, J, M), ?_, ?_, h2, h3, h4⟩
      · show fX5_tells_b186 nf T N R (q + 1) J M m (ii h) (o.getD wo) (ii i) = fX5_tells_b186 nf T N R q J M m (ii h) (o.getD wo) (ii (i + 1))
        rw [fX5_tells_b186]
        simp (disch := omega) only [↓nm_v, ↓tg, ↓rA, ↓chk_if, ↓reduceIte, inb_ii, ii_nat, ii_add, and_self, bi_zb, if_bi, if_bi1, ii_leT, ii_leF, ii_ltT, ii_ltF, ii_eqF, ii_m1F, ↓mb_2 hM, ↓mb_3 hM, ↓mb_4 hM, ↓mb_5 hM, ↓mb_6 hM, ↓mb_7 hM, ↓mb_9 hM, ↓mb_10 hM, ↓mb_12 hM, ↓mb_22 hM, ↓mb_24 hM, ↓mb_25 hM, ↓mb_27 hM, ↓mb_28 hM, ↓mb_31 hM, ↓mb_32 hM, ↓mb_33 hM, ↓mb_35 hM, ↓mb_36 hM, ↓mb_37 hM, ↓mb_41 hM, ↓mb_42 hM, ↓mb_43 hM, ↓mb_44 hM, ↓mb_45 hM, ↓mb_46 hM, ↓mb_47 hM, ↓mb_48 hM, ↓mb_49 hM, ↓mb_55 hM, hM, eg, e34, t2, ii_mul, c1]
      · show o = rngF _ (i + 1) 0 none
        rw [rngF_s, ← h1]
        unfold lawS
        rw [if_neg p]
  · rintro q ⟨o, J, M⟩ ⟨h1, h2, h3, h4⟩
    have h2 : mSc m I J L M := h2
    have eg : J (m + 2) = I (m + 2) := h2.1 _ (by omega)
    have e34 : J m 34 = ii lw := Eq.trans h4 h34
    show fX5_tells_b186 nf T N R (q + 1) J M m (ii h) (o.getD wo) (ii nl) = some (o.getD wo, J, M)
    rw [fX5_tells_b186]
    simp (disch := omega) only [↓nm_v, ↓tg, ↓rA, ↓chk_if, ↓reduceIte, inb_ii, ii_nat, ii_add, and_self, bi_zb, if_bi, if_bi1, ii_leT, ii_leF, ii_ltT, ii_ltF, ii_eqF, ii_m1F, ↓mb_2 hM, ↓mb_3 hM, ↓mb_4 hM, ↓mb_5 hM, ↓mb_6 hM, ↓mb_7 hM, ↓mb_9 hM, ↓mb_10 hM, ↓mb_12 hM, ↓mb_22 hM, ↓mb_24 hM, ↓mb_25 hM, ↓mb_27 hM, ↓mb_28 hM, ↓mb_31 hM, ↓mb_32 hM, ↓mb_33 hM, ↓mb_35 hM, ↓mb_36 hM, ↓mb_37 hM, ↓mb_41 hM, ↓mb_42 hM, ↓mb_43 hM, ↓mb_44 hM, ↓mb_45 hM, ↓mb_46 hM, ↓mb_47 hM, ↓mb_48 hM, ↓mb_49 hM, ↓mb_55 hM, hM, eg, e34, t2]
/-- the values as tells lays them: places 1 .. 9 -/
def setW (w : Nat → Int64) (g : Nat → Int32) (ch : Nat) (lane : Int32) : Nat → Int64 :=
  vp_updL (vp_updL (vp_updL (vp_updL (vp_updL (vp_updL (vp_updL (vp_updL (vp_updL w 1 (envG g ch lane 0)) 2 (envG g ch lane 1)) 3 (envG g ch lane 2)) 4 (envG g ch lane 3)) 5 (envG g ch lane 4)) 6 (envG g ch lane 5)) 7 (envG g ch lane 6)) 8 (envG g ch lane 7)) 9 (envG g ch lane 8)
theorem setW_at (w : Nat → Int64) (g : Nat → Int32) (ch : Nat) (lane : Int32) : ∀ i, i < 9 → setW w g ch lane (i + 1) = envG g ch lane i := by
  intro i hi
  unfold setW
  obtain rfl | rfl | rfl | rfl | rfl | rfl | rfl | rfl | rfl : i = 0 ∨ i = 1 ∨ i = 2 ∨ i = 3 ∨ i = 4 ∨ i = 5 ∨ i = 6 ∨ i = 7 ∨ i = 8 := by omega
  all_goals simp [updL_at]
theorem MTold_of (hM : MSh m T N R) (hnf : 402 < nf) {tx : Nat → Int32} {D : Laws} (hx : ∀ j, j < na tx 3 → loc9 (D j) ∧ TextM tx (76 + 900 * j) (D j)) (h6 : na tx 3 ≤ 6) : MTold nf m D T N R tx := by
  intro I L n k H htx h20 ho hH h ch lane wo hh hch hl
  have hk := ho.1.2.2.2
  have hn := ho.1.2.1
  unfold toldG
  by_cases q : I (m + 2) 4 = -1
  · rw [if_pos q]
    refine ⟨I, L, ?_, mSc_refl _ _ _⟩
    unfold fX5_tells
    simp (disch := omega) only [↓nm_v, ↓tg, ↓rA, ↓chk_if, ↓reduceIte, inb_ii, ii_nat, ii_add, and_self, bi_zb, if_bi, if_bi1, ii_leT, ii_leF, ii_ltT, ii_ltF, ii_eqF, ii_m1F, ↓mb_2 hM, ↓mb_3 hM, ↓mb_4 hM, ↓mb_5 hM, ↓mb_6 hM, ↓mb_7 hM, ↓mb_9 hM, ↓mb_10 hM, ↓mb_12 hM, ↓mb_22 hM, ↓mb_24 hM, ↓mb_25 hM, ↓mb_27 hM, ↓mb_28 hM, ↓mb_31 hM, ↓mb_32 hM, ↓mb_33 hM, ↓mb_35 hM, ↓mb_36 hM, ↓mb_37 hM, ↓mb_41 hM, ↓mb_42 hM, ↓mb_43 hM, ↓mb_44 hM, ↓mb_45 hM, ↓mb_46 hM, ↓mb_47 hM, ↓mb_48 hM, ↓mb_49 hM, ↓mb_55 hM, hM, q, Option.getD_none]
  · rw [if_neg q]
    have e3 : na tx 3 = na (I (m + 2)) 3 := by unfold na; rw [htx 3 (Or.inl rfl) (by omega)]
    obtain ⟨hf1, hf2⟩ := ho.2.2.2.2.2.2.2.2.2.2.2.2.2.2.2.2.resolve_left q
    obtain ⟨lc, tM⟩ := hx (na (I (m + 2)) 4) (by omega)
    have hw := setW_at (L (m + 18)) (I (m + 2)) ch lane
    have eJ : uI I m 34 (ii (76 + 900 * na (I (m + 2)) 4)) (m + 2) = I (m + 2) := uI_ne (by omega)
    obtain ⟨I', L', e, hs⟩ := m_tellsL (I := uI I m 34 (ii (76 + 900 * na (I (m + 2)) 4))) (L := sL L (m + 18) (setW (L (m + 18)) (I (m + 2)) ch lane)) (lw := 76 + 900 * na (I (m + 2)) 4) hM (by rw [uI_mis (by omega)]; exact h20) (uI_hit _ _ _ _) (by omega) hnf (d := D (na (I (m + 2)) 4)) (TextM_of tM (fun j j1 j2 => by rw [eJ]; exact htx j (Or.inr (by omega)) (by omega))) hh wo
    rw [sL_at, lc h _ (envG (I (m + 2)) ch lane) hw] at e
    refine ⟨I', L', ?_, mSc_trans ⟨fun a ha => uI_ne ha, fun j j1 _ => uI_mis j1, fun a _ a2 _ => sL_ne a2, fun j _ _ => by rw [sL_ne (by omega)]⟩ hs⟩
    rcases hl with rfl | ⟨l, hl, rfl⟩
    · have ew : setW (L (m + 18)) (I (m + 2)) ch (-1) = vp_updL (vp_updL (vp_updL (vp_updL (vp_updL (vp_updL (vp_updL (vp_updL (vp_updL (L (m + 18)) 1 (ii ch).toInt64) 2 (I (m + 2) (66 + ch)).toInt64) 3 (-1 : Int32).toInt64) 4 (-1)) 5 (-1)) 6 (I (m + 2) (18 + ch)).toInt64) 7 (I (m + 2) (22 + ch)).toInt64) 8 (I (m + 2) 5).toInt64) 9 (I (m + 2) 7).toInt64 := by
        unfold setW envG
        simp
      rw [ew] at e
      unfold fX5_tells
      simp (disch := omega) only [↓nm_v, ↓tg, ↓rA, ↓chk_if, ↓reduceIte, inb_ii, ii_nat, ii_add, and_self, bi_zb, if_bi, if_bi1, ii_leT, ii_leF, ii_ltT, ii_ltF, ii_eqF, ii_m1F, ↓mb_2 hM, ↓mb_3 hM, ↓mb_4 hM, ↓mb_5 hM, ↓mb_6 hM, ↓mb_7 hM, ↓mb_9 hM, ↓mb_10 hM, ↓mb_12 hM, ↓mb_22 hM, ↓mb_24 hM, ↓mb_25 hM, ↓mb_27 hM, ↓mb_28 hM, ↓mb_31 hM, ↓mb_32 hM, ↓mb_33 hM, ↓mb_35 hM, ↓mb_36 hM, ↓mb_37 hM, ↓mb_41 hM, ↓mb_42 hM, ↓mb_43 hM, ↓mb_44 hM, ↓mb_45 hM, ↓mb_46 hM, ↓mb_47 hM, ↓mb_48 hM, ↓mb_49 hM, ↓mb_55 hM, hM, fX5_tells_b88, fX5_tells_b115, q, hf1, ii_mul, uI_ne, uL_s L, uL_sL]
      exact e
    · have hlm : ¬ ii l = -1 := ii_m1 (by omega)
      have ew : setW (L (m + 18)) (I (m + 2)) ch (ii l) = vp_updL (vp_updL (vp_updL (vp_updL (vp_updL (vp_updL (vp_updL (vp_updL (vp_updL (L (m + 18)) 1 (ii ch).toInt64) 2 (I (m + 2) (66 + ch)).toInt64) 3 (ii l).toInt64) 4 (I (m + 2) (46 + l)).toInt64) 5 (I (m + 2) (56 + l)).toInt64) 6 (I (m + 2) (18 + ch)).toInt64) 7 (I (m + 2) (22 + ch)).toInt64) 8 (I (m + 2) 5).toInt64) 9 (I (m + 2) 7).toInt64 := by
        unfold setW envG
        simp [hlm, ii_nat (show l < 2147483648 by omega)]
      rw [ew] at e
      unfold fX5_tells
      simp (disch := omega) only [↓nm_v, ↓tg, ↓rA, ↓chk_if, ↓reduceIte, inb_ii, ii_nat, ii_add, and_self, bi_zb, if_bi, if_bi1, ii_leT, ii_leF, ii_ltT, ii_ltF, ii_eqF, ii_m1F, ↓mb_2 hM, ↓mb_3 hM, ↓mb_4 hM, ↓mb_5 hM, ↓mb_6 hM, ↓mb_7 hM, ↓mb_9 hM, ↓mb_10 hM, ↓mb_12 hM, ↓mb_22 hM, ↓mb_24 hM, ↓mb_25 hM, ↓mb_27 hM, ↓mb_28 hM, ↓mb_31 hM, ↓mb_32 hM, ↓mb_33 hM, ↓mb_35 hM, ↓mb_36 hM, ↓mb_37 hM, ↓mb_41 hM, ↓mb_42 hM, ↓mb_43 hM, ↓mb_44 hM, ↓mb_45 hM, ↓mb_46 hM, ↓mb_47 hM, ↓mb_48 hM, ↓mb_49 hM, ↓mb_55 hM, hM, fX5_tells_b88, fX5_tells_b115, q, hf1, hlm, ii_mul, uI_ne, uL_s L, uL_sL]
      exact e
end
