/-! PLAIN LAND, 41: reading goes on -/
section
variable {lg : Bool} {b : Nat → Nat} {sz i lv dp : Nat}
theorem adv_w {α : Type} {i' lv' : Nat} {r : Rs α} (h : Adv b sz i' lv' r) (hi : i ≤ i') (hl : lv ≤ lv') : Adv b sz i lv r := by
  cases r with
  | inl e => exact ⟨Nat.le_trans hi h.1, h.2⟩
  | inr p => exact ⟨Nat.lt_of_le_of_lt hi h.1, h.2.1, Nat.le_trans hl h.2.2.1, h.2.2.2⟩
theorem adv_0 {α : Type} {r : Rs α} (h : Adv b sz i lv r) : Adv0 b sz i lv r := by
  cases r with
  | inl e => exact h
  | inr p => exact ⟨Nat.le_of_lt h.1, h.2⟩
theorem adv0_w {α : Type} {i' lv' : Nat} {r : Rs α} (h : Adv0 b sz i' lv' r) (hi : i < i') (hl : lv ≤ lv') : Adv b sz i lv r := by
  cases r with
  | inl e => exact ⟨Nat.le_trans (Nat.le_of_lt hi) h.1, h.2⟩
  | inr p => exact ⟨Nat.lt_of_lt_of_le hi h.1, h.2.1, Nat.le_trans hl h.2.2.1, h.2.2.2⟩
theorem adv0_w0 {α : Type} {i' lv' : Nat} {r : Rs α} (h : Adv0 b sz i' lv' r) (hi : i ≤ i') (hl : lv ≤ lv') : Adv0 b sz i lv r := by
  cases r with
  | inl e => exact ⟨Nat.le_trans hi h.1, h.2⟩
  | inr p => exact ⟨Nat.le_trans hi h.1, h.2.1, Nat.le_trans hl h.2.2.1, h.2.2.2⟩
theorem adv_e {α : Type} (h : tk b sz i) : Adv (α := α) b sz i lv (.inl i) := ⟨Nat.le_refl _, h.1⟩
/-- what a value word gives -/
def vlB (lg : Bool) (b : Nat → Nat) (sz i : Nat) : Nat ⊕ (Nat × Nat) → Prop
  | .inl e => i ≤ e ∧ e ≤ sz
  | .inr (k, j) => i < j ∧ tk b sz j ∧ k < (if lg = true then 19 else 9)
theorem vl_adv {r : Nat ⊕ (Nat × Nat)} (h : vl lg b sz i = some r) : i < sz ∧ vlB lg b sz i r := by
  unfold vl at h
  cases lg with
  | false =>
    simp only at h
    cases q : fnW b sz i wsL 0 with
    | none => rw [q] at h; cases h
    | some k =>
      rw [q] at h
      cases h
      have h1 := fnW_lt _ _ _ q
      have h2 := nxt_tk (b := b) (show i ≤ sz by omega)
      have e : wsL.length = 9 := rfl
      exact ⟨h1.1, h2.2.2 h1.1, h2.1, by rw [if_neg (by decide)]; omega⟩
  | true =>
    simp only at h
    cases q : fnW b sz i wsO 0 with
    | none => rw [q] at h; cases h
    | some k =>
      rw [q] at h
      have h1 := fnW_lt _ _ _ q
      have h2 := nxt_tk (b := b) (show i ≤ sz by omega)
      have h3 := h2.2.2 h1.1
      have e : wsO.length = 7 := rfl
      by_cases c : k < 5
      · simp only [c, if_true] at h
        cases h
        exact ⟨h1.1, h3, h2.1, by rw [if_pos rfl]; omega⟩
      · simp only [c, if_false] at h
        cases q2 : numB b sz (nxt b sz i) 0 (if k = 5 then 3 else 9) with
        | none =>
          rw [q2] at h
          cases h
          exact ⟨h1.1, h2.2.1, h2.1.1⟩
        | some v =>
          rw [q2] at h
          cases h
          have h4 := numB_lt q2
          have h5 := nxt_tk (b := b) h2.1.1
          have h6 := h5.2.2 h4.1
          refine ⟨h1.1, by omega, h5.1, ?_⟩
          rw [if_pos rfl]
          by_cases c5 : k = 5
          · rw [if_pos c5] at h4 ⊢; omega
          · rw [if_neg c5] at h4 ⊢; omega
theorem adv_part {sm : Nat → Nat → Nat → Rs Den} (hs : ∀ dp i lv, tk b sz i → lv ≤ 50 → Adv b sz i lv (sm dp i lv)) (hi : tk b sz i) (hl : lv ≤ 50) : Adv b sz i lv (spPart lg b sz sm dp i lv) := by
  have hn := nxt_tk (b := b) hi.1
  unfold spPart
  by_cases q : sg b sz i 91 = true
  · rw [if_pos q]
    have q1 := (sg_lt q).1
    have hn1 := hn.2.2 q1
    by_cases q2 : dp = 8
    · rw [if_pos q2]; exact adv_e hi
    · rw [if_neg q2]
      have h1 := hs (dp + 1) (nxt b sz i) lv hn.1 hl
      cases h : sm (dp + 1) (nxt b sz i) lv with
      | inl e => rw [h] at h1; exact adv_w h1 hn.2.1 (Nat.le_refl _)
      | inr p =>
        obtain ⟨j, lv', d⟩ := p
        rw [h] at h1
        obtain ⟨a1, a2, a3, a4⟩ := h1
        simp only
        have hj := nxt_tk (b := b) a2.1
        split
        · exact ⟨by omega, hj.1, a3, a4⟩
        · exact ⟨by omega, a2.1⟩
  · rw [if_neg q]
    by_cases q2 : srt b sz i = 2
    · rw [if_pos q2]
      by_cases q3 : lv = 50
      · rw [if_pos q3]; exact adv_e hi
      · rw [if_neg q3]
        cases h : numB b sz i 0 1000 with
        | none => exact adv_e hi
        | some v => exact ⟨hn.2.2 (numB_lt h).1, hn.1, by omega, by omega⟩
    · rw [if_neg q2]
      cases h : vl lg b sz i with
      | none => exact adv_e hi
      | some r =>
        obtain ⟨h1, h2⟩ := vl_adv h
        simp only
        by_cases q3 : lv = 50
        · rw [if_pos q3]; exact adv_e hi
        · rw [if_neg q3]
          cases r with
          | inl e => exact h2
          | inr p => exact ⟨h2.1, h2.2.1, by omega, by omega⟩
theorem mulO_lt {o : Nat} (h : mulO b sz i = some o) : i < sz ∧ (22 ≤ o ∧ o < 25) ∧ sg b sz i (sgO o) = true := by
  unfold mulO at h
  split at h
  · rename_i q; cases h; exact ⟨(sg_lt q).1, by omega, q⟩
  · split at h
    · rename_i q; cases h; exact ⟨(sg_lt q).1, by omega, q⟩
    · split at h
      · rename_i q; cases h; exact ⟨(sg_lt q).1, by omega, q⟩
      · cases h
theorem addO_lt {o : Nat} (h : addO b sz i = some o) : i < sz ∧ (20 ≤ o ∧ o < 22) ∧ sg b sz i (sgO o) = true := by
  unfold addO at h
  split at h
  · rename_i q; cases h; exact ⟨(sg_lt q).1, by omega, q⟩
  · split at h
    · rename_i q; cases h; exact ⟨(sg_lt q).1, by omega, q⟩
    · cases h
theorem cmpO_lt {o : Nat} (h : cmpO b sz i = some o) : i < sz ∧ (25 ≤ o ∧ o < 28) ∧ sg b sz i (sgO o) = true := by
  unfold cmpO at h
  split at h
  · rename_i q; cases h; exact ⟨(sg_lt q).1, by omega, q⟩
  · split at h
    · rename_i q; cases h; exact ⟨(sg_lt q).1, by omega, q⟩
    · split at h
      · rename_i q; cases h; exact ⟨(sg_lt q).1, by omega, q⟩
      · cases h
theorem adv_termL {sm : Nat → Nat → Nat → Rs Den} (hs : ∀ dp i lv, tk b sz i → lv ≤ 50 → Adv b sz i lv (sm dp i lv)) : ∀ (f i lv : Nat) (d : Den), tk b sz i → lv ≤ 50 → Adv0 b sz i lv (spTermL lg b sz sm dp f i lv d) := by
  intro f
  induction f with
  | zero => intro i lv d hi hl; exact ⟨Nat.le_refl _, hi.1⟩
  | succ f ih =>
    intro i lv d hi hl
    have hn := nxt_tk (b := b) hi.1
    unfold spTermL
    cases h : mulO b sz i with
    | none => exact ⟨Nat.le_refl _, hi, Nat.le_refl _, hl⟩
    | some o =>
      have h1 := adv_part (lg := lg) (dp := dp) hs hn.1 hl
      simp only
      cases h2 : spPart lg b sz sm dp (nxt b sz i) lv with
      | inl e => rw [h2] at h1; exact ⟨Nat.le_trans hn.2.1 h1.1, h1.2⟩
      | inr p =>
        obtain ⟨j, lv', d'⟩ := p
        rw [h2] at h1
        exact adv0_w0 (ih j lv' (twoD o d d') h1.2.1 h1.2.2.2) (by have := h1.1; omega) h1.2.2.1
theorem adv_term {sm : Nat → Nat → Nat → Rs Den} (hs : ∀ dp i lv, tk b sz i → lv ≤ 50 → Adv b sz i lv (sm dp i lv)) (hi : tk b sz i) (hl : lv ≤ 50) : Adv b sz i lv (spTerm lg b sz sm dp i lv) := by
  have h1 := adv_part (lg := lg) (dp := dp) hs hi hl
  unfold spTerm
  cases h2 : spPart lg b sz sm dp i lv with
  | inl e => rw [h2] at h1; exact h1
  | inr p =>
    obtain ⟨j, lv', d'⟩ := p
    rw [h2] at h1
    exact adv0_w (adv_termL hs 401 j lv' d' h1.2.1 h1.2.2.2) h1.1 h1.2.2.1
theorem adv_sumL {sm : Nat → Nat → Nat → Rs Den} (hs : ∀ dp i lv, tk b sz i → lv ≤ 50 → Adv b sz i lv (sm dp i lv)) : ∀ (f i lv : Nat) (d : Den), tk b sz i → lv ≤ 50 → Adv0 b sz i lv (spSumL lg b sz sm dp f i lv d) := by
  intro f
  induction f with
  | zero => intro i lv d hi hl; exact ⟨Nat.le_refl _, hi.1⟩
  | succ f ih =>
    intro i lv d hi hl
    have hn := nxt_tk (b := b) hi.1
    unfold spSumL
    cases h : addO b sz i with
    | none => exact ⟨Nat.le_refl _, hi, Nat.le_refl _, hl⟩
    | some o =>
      have h1 := adv_term (lg := lg) (dp := dp) hs hn.1 hl
      simp only
      cases h2 : spTerm lg b sz sm dp (nxt b sz i) lv with
      | inl e => rw [h2] at h1; exact ⟨Nat.le_trans hn.2.1 h1.1, h1.2⟩
      | inr p =>
        obtain ⟨j, lv', d'⟩ := p
        rw [h2] at h1
        exact adv0_w0 (ih j lv' (twoD o d d') h1.2.1 h1.2.2.2) (by have := h1.1; omega) h1.2.2.1
theorem adv_sum : ∀ (D dp i lv : Nat), tk b sz i → lv ≤ 50 → Adv b sz i lv (spSum lg b sz D dp i lv) := by
  intro D
  induction D with
  | zero => intro dp i lv hi hl; exact adv_e hi
  | succ D ih =>
    intro dp i lv hi hl
    have h1 := adv_term (lg := lg) (dp := dp) ih hi hl
    unfold spSum
    cases h2 : spTerm lg b sz (spSum lg b sz D) dp i lv with
    | inl e => rw [h2] at h1; exact h1
    | inr p =>
      obtain ⟨j, lv', d'⟩ := p
      rw [h2] at h1
      exact adv0_w (adv_sumL ih 401 j lv' d' h1.2.1 h1.2.2.2) h1.1 h1.2.2.1
theorem adv_pos {ts : Nat → Nat → Nat → Rs TDen} (hs : ∀ dp i lv, tk b sz i → lv ≤ 50 → Adv b sz i lv (ts dp i lv)) (hi : tk b sz i) (hl : lv ≤ 50) : Adv b sz i lv (spPos lg b sz ts dp i lv) := by
  have hn := nxt_tk (b := b) hi.1
  unfold spPos
  by_cases q : sg b sz i 40 = true
  · rw [if_pos q]
    have q1 := (sg_lt q).1
    have hn1 := hn.2.2 q1
    by_cases q2 : dp = 8
    · rw [if_pos q2]; exact adv_e hi
    · rw [if_neg q2]
      have h1 := hs (dp + 1) (nxt b sz i) lv hn.1 hl
      cases h : ts (dp + 1) (nxt b sz i) lv with
      | inl e => rw [h] at h1; exact adv_w h1 hn.2.1 (Nat.le_refl _)
      | inr p =>
        obtain ⟨j, lv', d⟩ := p
        rw [h] at h1
        obtain ⟨a1, a2, a3, a4⟩ := h1
        simp only
        have hj := nxt_tk (b := b) a2.1
        split
        · exact ⟨by omega, hj.1, a3, a4⟩
        · exact ⟨by omega, a2.1⟩
  · rw [if_neg q]
    have h1 := adv_sum (lg := lg) 12 dp i lv hi hl
    cases h : spSum lg b sz 12 dp i lv with
    | inl e => rw [h] at h1; exact h1
    | inr p =>
      obtain ⟨j, lv', d⟩ := p
      rw [h] at h1
      obtain ⟨a1, a2, a3, a4⟩ := h1
      simp only
      cases c : cmpO b sz j with
      | none => exact ⟨Nat.le_of_lt a1, a2.1⟩
      | some o =>
        simp only
        have hj := nxt_tk (b := b) a2.1
        have h2 := adv_sum (lg := lg) 12 dp (nxt b sz j) lv' hj.1 a4
        cases h3 : spSum lg b sz 12 dp (nxt b sz j) lv' with
        | inl e => rw [h3] at h2; exact adv_w h2 (by omega) a3
        | inr p =>
          obtain ⟨j', lv'', d'⟩ := p
          rw [h3] at h2
          exact ⟨by have := h2.1; omega, h2.2.1, by have := h2.2.2.1; omega, h2.2.2.2⟩
theorem adv_plain {ts : Nat → Nat → Nat → Rs TDen} (hs : ∀ dp i lv, tk b sz i → lv ≤ 50 → Adv b sz i lv (ts dp i lv)) : ∀ (f i lv : Nat) (nt : Bool), tk b sz i → lv ≤ 50 → Adv b sz i lv (spPlain lg b sz ts dp f i lv nt) := by
  intro f
  induction f with
  | zero => intro i lv nt hi hl; exact adv_e hi
  | succ f ih =>
    intro i lv nt hi hl
    have hn := nxt_tk (b := b) hi.1
    unfold spPlain
    split
    · exact adv_w (ih _ lv (!nt) hn.1 hl) hn.2.1 (Nat.le_refl _)
    · have h1 := adv_pos (lg := lg) (dp := dp) hs hi hl
      cases h : spPos lg b sz ts dp i lv with
      | inl e => rw [h] at h1; exact h1
      | inr p => rw [h] at h1; exact h1
theorem adv_bothL {ts : Nat → Nat → Nat → Rs TDen} (hs : ∀ dp i lv, tk b sz i → lv ≤ 50 → Adv b sz i lv (ts dp i lv)) : ∀ (f i lv : Nat) (d : TDen), tk b sz i → lv ≤ 50 → Adv0 b sz i lv (spBothL lg b sz ts dp f i lv d) := by
  intro f
  induction f with
  | zero => intro i lv d hi hl; exact ⟨Nat.le_refl _, hi.1⟩
  | succ f ih =>
    intro i lv d hi hl
    have hn := nxt_tk (b := b) hi.1
    unfold spBothL
    split
    · have h1 := adv_plain (lg := lg) (dp := dp) hs 401 (nxt b sz i) lv false hn.1 hl
      cases h2 : spPlain lg b sz ts dp 401 (nxt b sz i) lv false with
      | inl e => rw [h2] at h1; exact ⟨Nat.le_trans hn.2.1 h1.1, h1.2⟩
      | inr p =>
        obtain ⟨j, lv', d'⟩ := p
        rw [h2] at h1
        exact adv0_w0 (ih j lv' (jnD true d d') h1.2.1 h1.2.2.2) (by have := h1.1; omega) h1.2.2.1
    · exact ⟨Nat.le_refl _, hi, Nat.le_refl _, hl⟩
theorem adv_both {ts : Nat → Nat → Nat → Rs TDen} (hs : ∀ dp i lv, tk b sz i → lv ≤ 50 → Adv b sz i lv (ts dp i lv)) (hi : tk b sz i) (hl : lv ≤ 50) : Adv b sz i lv (spBoth lg b sz ts dp i lv) := by
  have h1 := adv_plain (lg := lg) (dp := dp) hs 401 i lv false hi hl
  unfold spBoth
  cases h2 : spPlain lg b sz ts dp 401 i lv false with
  | inl e => rw [h2] at h1; exact h1
  | inr p =>
    obtain ⟨j, lv', d'⟩ := p
    rw [h2] at h1
    exact adv0_w (adv_bothL hs 401 j lv' d' h1.2.1 h1.2.2.2) h1.1 h1.2.2.1
theorem adv_testL {ts : Nat → Nat → Nat → Rs TDen} (hs : ∀ dp i lv, tk b sz i → lv ≤ 50 → Adv b sz i lv (ts dp i lv)) : ∀ (f i lv : Nat) (d : TDen), tk b sz i → lv ≤ 50 → Adv0 b sz i lv (spTestL lg b sz ts dp f i lv d) := by
  intro f
  induction f with
  | zero => intro i lv d hi hl; exact ⟨Nat.le_refl _, hi.1⟩
  | succ f ih =>
    intro i lv d hi hl
    have hn := nxt_tk (b := b) hi.1
    unfold spTestL
    split
    · have h1 := adv_both (lg := lg) (dp := dp) hs hn.1 hl
      cases h2 : spBoth lg b sz ts dp (nxt b sz i) lv with
      | inl e => rw [h2] at h1; exact ⟨Nat.le_trans hn.2.1 h1.1, h1.2⟩
      | inr p =>
        obtain ⟨j, lv', d'⟩ := p
        rw [h2] at h1
        exact adv0_w0 (ih j lv' (jnD false d d') h1.2.1 h1.2.2.2) (by have := h1.1; omega) h1.2.2.1
    · exact ⟨Nat.le_refl _, hi, Nat.le_refl _, hl⟩
theorem adv_test : ∀ (D dp i lv : Nat), tk b sz i → lv ≤ 50 → Adv b sz i lv (spTest lg b sz D dp i lv) := by
  intro D
  induction D with
  | zero => intro dp i lv hi hl; exact adv_e hi
  | succ D ih =>
    intro dp i lv hi hl
    have h1 := adv_both (lg := lg) (dp := dp) ih hi hl
    unfold spTest
    cases h2 : spBoth lg b sz (spTest lg b sz D) dp i lv with
    | inl e => rw [h2] at h1; exact h1
    | inr p =>
      obtain ⟨j, lv', d'⟩ := p
      rw [h2] at h1
      exact adv0_w (adv_testL ih 401 j lv' d' h1.2.1 h1.2.2.2) h1.1 h1.2.2.1
end
