/-! PLAIN LAND, 37: the model reckons code -/
theorem m_inB (v : Int64) : fX5_in v (-1000000000 : Int64) (jj 1000000000) = some (bi (!big v)) := by
  unfold fX5_in big
  by_cases h1 : v < (-1000000000 : Int64) <;> by_cases h2 : jj 1000000000 < v <;> simp [h1, h2, bi]
theorem uI_id {I : xI} {a k : Nat} {v : Int32} (h : I a k = v) : uI I a k v = I := by
  subst h
  exact uI_same I a k
section
variable {T N : xT} {R : xR} {I : xI} {L : xL} {m n k nf last lw : Nat} {op ar : Nat → Nat} {lf : Nat → Nat → Int64}
theorem m_reckon (hm : T m = 6) (h0 : I m 38 = ii 0) {o : Nat} (h1 : 20 ≤ o) (h2 : o < 28) (a b : Int64) :
    (∃ v, rk o a b = some v ∧ fX5_reckon T I m (ii o) a b = some (v, I)) ∨ (rk o a b = none ∧ ∃ v, fX5_reckon T I m (ii o) a b = some (v, uI I m 38 (ii 1))) := by
  have hz : uI I m 38 (ii 0) = I := uI_id h0
  have hh : uI I m 38 (ii 1) m 38 = ii 1 := uI_hit _ _ _ _
  obtain rfl | rfl | rfl | rfl | rfl | rfl | rfl | rfl : o = 20 ∨ o = 21 ∨ o = 22 ∨ o = 23 ∨ o = 24 ∨ o = 25 ∨ o = 26 ∨ o = 27 := by omega
  · exact Or.inl ⟨_, rfl, by unfold fX5_reckon; simp (disch := omega) only [ii_eqF, ↓reduceIte]⟩
  · exact Or.inl ⟨_, rfl, by unfold fX5_reckon; simp (disch := omega) only [ii_eqF, ↓reduceIte]⟩
  · exact Or.inl ⟨_, rfl, by unfold fX5_reckon; simp (disch := omega) only [ii_eqF, ↓reduceIte]⟩
  · by_cases hb : b = jj 0
    · refine Or.inr ⟨by unfold rk; simp [hb], jj 0, ?_⟩
      unfold fX5_reckon fX5_reckon_b72
      simp (disch := omega) only [↓nm_v, ↓tg, ↓rA, ↓chk_if, ↓reduceIte, inb_ii, ii_nat, ii_add, and_self, bi_zb, if_bi, if_bi1, ii_leT, ii_leF, ii_ltT, ii_ltF, ii_eqF, ii_m1F, hm, hb, hh, zb_1]
    · refine Or.inl ⟨a / b, by unfold rk; simp [hb], ?_⟩
      unfold fX5_reckon fX5_reckon_b72
      simp (disch := omega) only [↓nm_v, ↓tg, ↓rA, ↓chk_if, ↓reduceIte, inb_ii, ii_nat, ii_add, and_self, bi_zb, if_bi, if_bi1, ii_leT, ii_leF, ii_ltT, ii_ltF, ii_eqF, ii_m1F, hm, hb, hz, h0, zb_0, not_false_eq_true, decide_true]
  · by_cases hb : b = jj 0
    · refine Or.inr ⟨by unfold rk; simp [hb], jj 0, ?_⟩
      unfold fX5_reckon fX5_reckon_b104
      simp (disch := omega) only [↓nm_v, ↓tg, ↓rA, ↓chk_if, ↓reduceIte, inb_ii, ii_nat, ii_add, and_self, bi_zb, if_bi, if_bi1, ii_leT, ii_leF, ii_ltT, ii_ltF, ii_eqF, ii_m1F, hm, hb, hh, zb_1]
    · refine Or.inl ⟨a - a / b * b, by unfold rk; simp [hb], ?_⟩
      unfold fX5_reckon fX5_reckon_b104
      simp (disch := omega) only [↓nm_v, ↓tg, ↓rA, ↓chk_if, ↓reduceIte, inb_ii, ii_nat, ii_add, and_self, bi_zb, if_bi, if_bi1, ii_leT, ii_leF, ii_ltT, ii_ltF, ii_eqF, ii_m1F, hm, hb, hz, h0, zb_0, not_false_eq_true, decide_true]
  · refine Or.inl ⟨_, rfl, ?_⟩
    unfold fX5_reckon
    simp (disch := omega) only [ii_eqF, ↓reduceIte]
    split <;> rfl
  · refine Or.inl ⟨_, rfl, ?_⟩
    unfold fX5_reckon
    simp (disch := omega) only [ii_eqF, ↓reduceIte]
    split <;> rfl
  · refine Or.inl ⟨_, rfl, ?_⟩
    unfold fX5_reckon
    simp (disch := omega) only [ii_eqF, ↓reduceIte]
    split <;> rfl
theorem m_lpend (hM : MSh m T N R) (hn : n < 1000) (st : Nat → Int64) : fX5_reckonAll_b366 nf T N I (sL L (m + 20) st) R m (ii n) = some (I, uL (sL L (m + 20) st) m 39 (if n = 0 then jj 0 else st 0)) := by
  unfold fX5_reckonAll_b366
  by_cases h : n = 0
  · subst h
    simp (disch := omega) only [↓nm_v, ↓tg, ↓rA, ↓chk_if, ↓reduceIte, inb_ii, ii_nat, ii_add, and_self, bi_zb, if_bi, if_bi1, ii_leT, ii_leF, ii_ltT, ii_ltF, ii_eqF, ii_m1F, ↓mb_2 hM, ↓mb_3 hM, ↓mb_4 hM, ↓mb_5 hM, ↓mb_6 hM, ↓mb_7 hM, ↓mb_9 hM, ↓mb_10 hM, ↓mb_12 hM, ↓mb_22 hM, ↓mb_24 hM, ↓mb_25 hM, ↓mb_27 hM, ↓mb_28 hM, ↓mb_31 hM, ↓mb_32 hM, ↓mb_33 hM, ↓mb_35 hM, ↓mb_36 hM, ↓mb_37 hM, ↓mb_41 hM, ↓mb_42 hM, ↓mb_43 hM, ↓mb_44 hM, ↓mb_45 hM, ↓mb_46 hM, ↓mb_47 hM, ↓mb_48 hM, ↓mb_49 hM, ↓mb_55 hM, hM]
  · simp (disch := omega) only [↓nm_v, ↓tg, ↓rA, ↓chk_if, ↓reduceIte, inb_ii, ii_nat, ii_add, and_self, bi_zb, if_bi, if_bi1, ii_leT, ii_leF, ii_ltT, ii_ltF, ii_eqF, ii_m1F, ↓mb_2 hM, ↓mb_3 hM, ↓mb_4 hM, ↓mb_5 hM, ↓mb_6 hM, ↓mb_7 hM, ↓mb_9 hM, ↓mb_10 hM, ↓mb_12 hM, ↓mb_22 hM, ↓mb_24 hM, ↓mb_25 hM, ↓mb_27 hM, ↓mb_28 hM, ↓mb_31 hM, ↓mb_32 hM, ↓mb_33 hM, ↓mb_35 hM, ↓mb_36 hM, ↓mb_37 hM, ↓mb_41 hM, ↓mb_42 hM, ↓mb_43 hM, ↓mb_44 hM, ↓mb_45 hM, ↓mb_46 hM, ↓mb_47 hM, ↓mb_48 hM, ↓mb_49 hM, ↓mb_55 hM, hM, h, sL_at]
/-- code as the model runs it is code -/
theorem m_lpG (hM : MSh m T N R) (h38 : I m 38 = ii 0) (hl : last ≤ 400) (hop : ∀ k, k < last → op k < 31 ∧ ar k < 1000)
    (hF : ∀ q k n st, k < last → n ≤ k → fX5_reckonAll_b10 nf T N R (q + 1) I (sL L (m + 20) st) m (ii last) (ii n) (ii k) = fX5_reckonAll_b95 nf (fX5_reckonAll_b10 nf T N R q) T N I (sL L (m + 20) st) R m (ii last) (ii n) (ii k) (ii (op k)) (ii (ar k)))
    (hlf : ∀ kk k n st, k < last → n ≤ k → op k < 20 → fX5_reckonAll_b95 nf kk T N I (sL L (m + 20) st) R m (ii last) (ii n) (ii k) (ii (op k)) (ii (ar k)) = kk I (sL L (m + 20) (vp_updL st n (lf (op k) (ar k)))) m (ii last) (ii (n + 1)) (ii (k + 1))) :
    ∀ f k n st r q, lp op ar lf last f k n st = some r → f ≤ q → n ≤ k → k < 1000 →
      (r = none → ∃ st' v, fX5_reckonAll_b10 nf T N R (q + 1) I (sL L (m + 20) st) m (ii last) (ii n) (ii k) = some (uI I m 38 (ii 1), uL (sL L (m + 20) st') m 39 v)) ∧
      (∀ n' st', r = some (n', st') → fX5_reckonAll_b10 nf T N R (q + 1) I (sL L (m + 20) st) m (ii last) (ii n) (ii k) = some (I, uL (sL L (m + 20) st') m 39 (if n' = 0 then jj 0 else st' 0))) := by
  intro f
  induction f with
  | zero => intro k n st r q h; cases h
  | succ f ih =>
    intro k n st r q h hq hnk hk
    unfold lp at h
    by_cases hlk : last ≤ k
    · rw [if_pos hlk] at h
      cases h
      refine ⟨fun h => by (cases h), fun n' st' h => ?_⟩
      cases h
      rw [fX5_reckonAll_b10]
      simp (disch := omega) only [↓nm_v, ↓tg, ↓rA, ↓chk_if, ↓reduceIte, inb_ii, ii_nat, ii_add, and_self, bi_zb, if_bi, if_bi1, ii_leT, ii_leF, ii_ltT, ii_ltF, ii_eqF, ii_m1F, m_lpend hM]
    · rw [if_neg hlk] at h
      obtain ⟨q, rfl⟩ : ∃ z, q = z + 1 := ⟨q - 1, by omega⟩
      obtain ⟨ho1, ho2⟩ := hop k (by omega)
      rw [hF (q + 1) k n st (by omega) hnk]
      by_cases c1 : op k < 20
      · rw [if_pos c1] at h
        rw [hlf _ k n st (by omega) hnk c1]
        exact ih _ _ _ _ _ h (by omega) (by omega) (by omega)
      · rw [if_neg c1] at h
        unfold fX5_reckonAll_b95
        by_cases c2 : op k < 28
        · rw [if_pos c2] at h
          by_cases c3 : n < 2
          · rw [if_pos c3] at h; cases h
          · rw [if_neg c3] at h
            have en : ii n - ii 1 - ii 1 = ii (n - 2) := by rw [ii_sub (by omega), ii_sub (by omega)]; rfl
            have en1 : ii n + (-1 : Int32) = ii (n - 1) := ii_dec (by omega)
            have en2 : ii (n - 1) - ii 1 = ii (n - 2) := by rw [ii_sub (by omega)]; rfl
            unfold rkB at h
            rcases m_reckon (T := T) (I := I) hM.1 h38 (Nat.le_of_not_lt c1) c2 (st (n - 2)) (st (n - 1)) with ⟨v, e1, e2⟩ | ⟨e1, v, e2⟩
            · rw [e1] at h
              by_cases cb : big v = true
              · simp only [cb, if_true] at h
                cases h
                refine ⟨fun _ => ⟨vp_updL st (n - 2) v, (if n - 1 = 0 then jj 0 else vp_updL st (n - 2) v 0), ?_⟩, fun n' st' h => by (cases h)⟩
                simp (disch := omega) only [↓nm_v, ↓tg, ↓rA, ↓chk_if, ↓reduceIte, inb_ii, ii_nat, ii_add, and_self, bi_zb, if_bi, if_bi1, ii_leT, ii_leF, ii_ltT, ii_ltF, ii_eqF, ii_m1F, ↓mb_2 hM, ↓mb_3 hM, ↓mb_4 hM, ↓mb_5 hM, ↓mb_6 hM, ↓mb_7 hM, ↓mb_9 hM, ↓mb_10 hM, ↓mb_12 hM, ↓mb_22 hM, ↓mb_24 hM, ↓mb_25 hM, ↓mb_27 hM, ↓mb_28 hM, ↓mb_31 hM, ↓mb_32 hM, ↓mb_33 hM, ↓mb_35 hM, ↓mb_36 hM, ↓mb_37 hM, ↓mb_41 hM, ↓mb_42 hM, ↓mb_43 hM, ↓mb_44 hM, ↓mb_45 hM, ↓mb_46 hM, ↓mb_47 hM, ↓mb_48 hM, ↓mb_49 hM, ↓mb_55 hM, hM, en1, en2, sL_at, ↓b2_of e2, uL_sL, h38, updL_at, ↓bn_of (m_inB v), cb, Bool.not_true, bi_f]
                rw [fX5_reckonAll_b10]
                by_cases c9 : last ≤ k + 1
                · simp (disch := omega) only [↓nm_v, ↓tg, ↓rA, ↓chk_if, ↓reduceIte, inb_ii, ii_nat, ii_add, and_self, bi_zb, if_bi, if_bi1, ii_leT, ii_leF, ii_ltT, ii_ltF, ii_eqF, ii_m1F, m_lpend hM]
                  rfl
                · simp (disch := omega) only [↓nm_v, ↓tg, ↓rA, ↓chk_if, ↓reduceIte, inb_ii, ii_nat, ii_add, and_self, bi_zb, if_bi, if_bi1, ii_leT, ii_leF, ii_ltT, ii_ltF, ii_eqF, ii_m1F, m_lpend hM, hM, uI_hit]
                  rfl
              · simp only [cb] at h
                have cb' : big v = false := by simpa using cb
                have hz : uI I m 38 (ii 0) = I := uI_id h38
                simp (disch := omega) only [↓nm_v, ↓tg, ↓rA, ↓chk_if, ↓reduceIte, inb_ii, ii_nat, ii_add, and_self, bi_zb, if_bi, if_bi1, ii_leT, ii_leF, ii_ltT, ii_ltF, ii_eqF, ii_m1F, ↓mb_2 hM, ↓mb_3 hM, ↓mb_4 hM, ↓mb_5 hM, ↓mb_6 hM, ↓mb_7 hM, ↓mb_9 hM, ↓mb_10 hM, ↓mb_12 hM, ↓mb_22 hM, ↓mb_24 hM, ↓mb_25 hM, ↓mb_27 hM, ↓mb_28 hM, ↓mb_31 hM, ↓mb_32 hM, ↓mb_33 hM, ↓mb_35 hM, ↓mb_36 hM, ↓mb_37 hM, ↓mb_41 hM, ↓mb_42 hM, ↓mb_43 hM, ↓mb_44 hM, ↓mb_45 hM, ↓mb_46 hM, ↓mb_47 hM, ↓mb_48 hM, ↓mb_49 hM, ↓mb_55 hM, hM, en1, en2, sL_at, ↓b2_of e2, uL_sL, h38, updL_at, ↓bn_of (m_inB v), cb', Bool.not_false, bi_t, hz]
                exact ih _ _ _ _ _ h (by omega) (by omega) (by omega)
            · rw [e1] at h
              cases h
              refine ⟨fun _ => ⟨vp_updL st (n - 2) v, (if n - 1 = 0 then jj 0 else vp_updL st (n - 2) v 0), ?_⟩, fun n' st' h => by (cases h)⟩
              have hii : uI (uI I m 38 (ii 1)) m 38 (ii 1) = uI I m 38 (ii 1) := uI_id (uI_hit _ _ _ _)
              simp (disch := omega) only [↓nm_v, ↓tg, ↓rA, ↓chk_if, ↓reduceIte, inb_ii, ii_nat, ii_add, and_self, bi_zb, if_bi, if_bi1, ii_leT, ii_leF, ii_ltT, ii_ltF, ii_eqF, ii_m1F, ↓mb_2 hM, ↓mb_3 hM, ↓mb_4 hM, ↓mb_5 hM, ↓mb_6 hM, ↓mb_7 hM, ↓mb_9 hM, ↓mb_10 hM, ↓mb_12 hM, ↓mb_22 hM, ↓mb_24 hM, ↓mb_25 hM, ↓mb_27 hM, ↓mb_28 hM, ↓mb_31 hM, ↓mb_32 hM, ↓mb_33 hM, ↓mb_35 hM, ↓mb_36 hM, ↓mb_37 hM, ↓mb_41 hM, ↓mb_42 hM, ↓mb_43 hM, ↓mb_44 hM, ↓mb_45 hM, ↓mb_46 hM, ↓mb_47 hM, ↓mb_48 hM, ↓mb_49 hM, ↓mb_55 hM, hM, en1, en2, sL_at, ↓b2_of e2, uL_sL, uI_hit, hii]
              rw [fX5_reckonAll_b10]
              by_cases c9 : last ≤ k + 1
              · simp (disch := omega) only [↓nm_v, ↓tg, ↓rA, ↓chk_if, ↓reduceIte, inb_ii, ii_nat, ii_add, and_self, bi_zb, if_bi, if_bi1, ii_leT, ii_leF, ii_ltT, ii_ltF, ii_eqF, ii_m1F, m_lpend hM]
              · simp (disch := omega) only [↓nm_v, ↓tg, ↓rA, ↓chk_if, ↓reduceIte, inb_ii, ii_nat, ii_add, and_self, bi_zb, if_bi, if_bi1, ii_leT, ii_leF, ii_ltT, ii_ltF, ii_eqF, ii_m1F, m_lpend hM, hM, uI_hit]
        · rw [if_neg c2] at h
          by_cases c3 : n < 1
          · rw [if_pos c3] at h; cases h
          · rw [if_neg c3] at h
            have en2 : ii n - ii 1 = ii (n - 1) := ii_sub (by omega)
            by_cases c4 : op k = 28
            · rw [if_pos c4] at h
              simp (disch := omega) only [↓nm_v, ↓tg, ↓rA, ↓chk_if, ↓reduceIte, inb_ii, ii_nat, ii_add, and_self, bi_zb, if_bi, if_bi1, ii_leT, ii_leF, ii_ltT, ii_ltF, ii_eqF, ii_m1F, ↓mb_2 hM, ↓mb_3 hM, ↓mb_4 hM, ↓mb_5 hM, ↓mb_6 hM, ↓mb_7 hM, ↓mb_9 hM, ↓mb_10 hM, ↓mb_12 hM, ↓mb_22 hM, ↓mb_24 hM, ↓mb_25 hM, ↓mb_27 hM, ↓mb_28 hM, ↓mb_31 hM, ↓mb_32 hM, ↓mb_33 hM, ↓mb_35 hM, ↓mb_36 hM, ↓mb_37 hM, ↓mb_41 hM, ↓mb_42 hM, ↓mb_43 hM, ↓mb_44 hM, ↓mb_45 hM, ↓mb_46 hM, ↓mb_47 hM, ↓mb_48 hM, ↓mb_49 hM, ↓mb_55 hM, hM, c4, en2, sL_at, uL_sL]
              exact ih _ _ _ _ _ h (by omega) (by omega) (by omega)
            · rw [if_neg c4] at h
              by_cases c5 : op k = 29
              · rw [if_pos c5] at h
                simp (disch := omega) only [↓nm_v, ↓tg, ↓rA, ↓chk_if, ↓reduceIte, inb_ii, ii_nat, ii_add, and_self, bi_zb, if_bi, if_bi1, ii_leT, ii_leF, ii_ltT, ii_ltF, ii_eqF, ii_m1F, ↓mb_2 hM, ↓mb_3 hM, ↓mb_4 hM, ↓mb_5 hM, ↓mb_6 hM, ↓mb_7 hM, ↓mb_9 hM, ↓mb_10 hM, ↓mb_12 hM, ↓mb_22 hM, ↓mb_24 hM, ↓mb_25 hM, ↓mb_27 hM, ↓mb_28 hM, ↓mb_31 hM, ↓mb_32 hM, ↓mb_33 hM, ↓mb_35 hM, ↓mb_36 hM, ↓mb_37 hM, ↓mb_41 hM, ↓mb_42 hM, ↓mb_43 hM, ↓mb_44 hM, ↓mb_45 hM, ↓mb_46 hM, ↓mb_47 hM, ↓mb_48 hM, ↓mb_49 hM, ↓mb_55 hM, hM, c5, en2, sL_at, fX5_reckonAll_b349]
                by_cases c6 : st (n - 1) = jj 0
                · rw [if_pos c6] at h
                  by_cases c7 : ar k ≤ k
                  · rw [if_pos c7] at h; cases h
                  · rw [if_neg c7] at h
                    simp only [c6, if_true]
                    exact ih _ _ _ _ _ h (by omega) (by omega) (by omega)
                · rw [if_neg c6] at h
                  simp only [c6, if_false, nm_v, ii_dec (show 1 ≤ n by omega)]
                  exact ih _ _ _ _ _ h (by omega) (by omega) (by omega)
              · rw [if_neg c5] at h
                simp (disch := omega) only [↓nm_v, ↓tg, ↓rA, ↓chk_if, ↓reduceIte, inb_ii, ii_nat, ii_add, and_self, bi_zb, if_bi, if_bi1, ii_leT, ii_leF, ii_ltT, ii_ltF, ii_eqF, ii_m1F, ↓mb_2 hM, ↓mb_3 hM, ↓mb_4 hM, ↓mb_5 hM, ↓mb_6 hM, ↓mb_7 hM, ↓mb_9 hM, ↓mb_10 hM, ↓mb_12 hM, ↓mb_22 hM, ↓mb_24 hM, ↓mb_25 hM, ↓mb_27 hM, ↓mb_28 hM, ↓mb_31 hM, ↓mb_32 hM, ↓mb_33 hM, ↓mb_35 hM, ↓mb_36 hM, ↓mb_37 hM, ↓mb_41 hM, ↓mb_42 hM, ↓mb_43 hM, ↓mb_44 hM, ↓mb_45 hM, ↓mb_46 hM, ↓mb_47 hM, ↓mb_48 hM, ↓mb_49 hM, ↓mb_55 hM, hM, c4, c5, en2, sL_at, fX5_reckonAll_b349]
                by_cases c6 : st (n - 1) = jj 1
                · rw [if_pos c6] at h
                  by_cases c7 : ar k ≤ k
                  · rw [if_pos c7] at h; cases h
                  · rw [if_neg c7] at h
                    simp only [c6, if_true]
                    exact ih _ _ _ _ _ h (by omega) (by omega) (by omega)
                · rw [if_neg c6] at h
                  simp only [c6, if_false, nm_v, ii_dec (show 1 ≤ n by omega)]
                  exact ih _ _ _ _ _ h (by omega) (by omega) (by omega)
end
