/-! PLAIN LAND, 27: an hour passes, both sides: the walks -/
theorem StR_g {I : xI} {s : Nat} {g g' : Nat → Int32} (h : StR I s g) (e : ∀ i, (i < 5 ∨ i = 6 ∨ i = 7 ∨ 26 ≤ i) → g' i = g i) : StR I s g' := by
  obtain ⟨h1, h2, h3, h4, h5, h6, h7, h8, h9, h10, h11, h12, h13⟩ := h
  refine ⟨?_, ?_, ?_, ?_, ?_, ?_, fun l hl => ?_, fun l hl => ?_, fun l hl => ?_, fun l hl => ?_, fun l hl => ?_, fun l hl => ?_, ?_⟩
  · rw [e _ (by omega)]; exact h1
  · rw [e _ (by omega)]; exact h2
  · rw [e _ (by omega)]; exact h3
  · rw [e _ (by omega)]; exact h4
  · rw [e _ (by omega)]; exact h5
  · rw [e _ (by omega)]; exact h6
  · rw [e _ (by omega)]; exact h7 l hl
  · rw [e _ (by omega)]; exact h8 l hl
  · rw [e _ (by omega)]; exact h9 l hl
  · rw [e _ (by omega)]; exact h10 l hl
  · rw [e _ (by omega)]; exact h11 l hl
  · rw [e _ (by omega)]; exact h12 l hl
  · rw [e _ (by omega)]; exact h13
theorem StR_I {I I' : xI} {s : Nat} {g : Nat → Int32} (h : StR I s g) (e : ∀ a, (a = s ∨ (s + 5 ≤ a ∧ a ≤ s + 11)) → I' a = I a) : StR I' s g := by
  obtain ⟨h1, h2, h3, h4, h5, h6, h7, h8, h9, h10, h11, h12, h13⟩ := h
  have e0 := e s (by omega)
  have e5 := e (s + 5) (by omega)
  have e6 := e (s + 6) (by omega)
  have e7 := e (s + 7) (by omega)
  have e8 := e (s + 8) (by omega)
  have e9 := e (s + 9) (by omega)
  have e10 := e (s + 10) (by omega)
  have e11 := e (s + 11) (by omega)
  rw [StR, e0, e5, e6, e7, e8, e9, e10, e11]
  exact ⟨h1, h2, h3, h4, h5, h6, h7, h8, h9, h10, h11, h12, h13⟩
theorem TbR_I {I I' : xI} {t : Nat} {g : Nat → Int32} (h : TbR I t g) (e0 : I' t 3 = I t 3) (e1 : I' (t + 1) = I (t + 1)) (e2 : I' (t + 2) = I (t + 2)) (e3 : I' (t + 3) = I (t + 3)) : TbR I' t g := by
  rw [TbR, e0, e1, e2, e3]
  exact h
section
variable {T N T0 N0 : xT} {R R0 : xR} {I I0 : xI} {L : xL} {c s t m n k nf H : Nat} {D : Laws} {fz : Nat → Prop} {g g' : Nat → Int32}
theorem c_goes (hC : CSh c s T N R) (hS : StSh s T N R) (hB : TbSh t T N R) (hr : StR I s g) (ht : TbR I t g) (hn : n ≤ 10) (hk : k ≤ 4) {ch l : Nat} (hch : ch < k) (hl : l < n) (h12 : t + 1 ≠ t + 2) :
    fX0_goes T N I R c t (ii ch) (ii l) = some (uI (uI I (t + 1) ch (acrG g ch l)) (t + 2) ch (ii l)) := by
  have eA := hr.2.2.2.2.2.2.1 l (by omega)
  have eB := hr.2.2.2.2.2.2.2.1 l (by omega)
  have eC := ht.2.1 ch (by omega)
  have eo : fX1_otherEnd T N I R s (ii l) (g (18 + ch)) = some (acrG g ch l) := by
    unfold fX1_otherEnd acrG
    by_cases p : g (26 + l) = g (18 + ch)
    · simp (disch := omega) only [↓nm_v, ↓tg, ↓rA, ↓chk_if, ↓reduceIte, inb_ii, ii_nat, ii_add, and_self, bi_zb, if_bi, if_bi1, ii_leT, ii_leF, ii_ltT, ii_ltF, ii_eqF, ii_m1F, ↓sb_0 hS, ↓sb1_0 hS, ↓sb1_1 hS, ↓sb1_2 hS, ↓sb_1 hS, ↓sb_2 hS, ↓sb_3 hS, ↓sb_4 hS, ↓sb_5 hS, ↓sb_6 hS, ↓sb_7 hS, hS, eA, eB, p]
    · simp (disch := omega) only [↓nm_v, ↓tg, ↓rA, ↓chk_if, ↓reduceIte, inb_ii, ii_nat, ii_add, and_self, bi_zb, if_bi, if_bi1, ii_leT, ii_leF, ii_ltT, ii_ltF, ii_eqF, ii_m1F, ↓sb_0 hS, ↓sb1_0 hS, ↓sb1_1 hS, ↓sb1_2 hS, ↓sb_1 hS, ↓sb_2 hS, ↓sb_3 hS, ↓sb_4 hS, ↓sb_5 hS, ↓sb_6 hS, ↓sb_7 hS, hS, eA, eB, p]
  unfold fX0_goes
  simp (disch := omega) only [↓nm_v, ↓tg, ↓rA, ↓chk_if, ↓reduceIte, inb_ii, ii_nat, ii_add, and_self, bi_zb, if_bi, if_bi1, ii_leT, ii_leF, ii_ltT, ii_ltF, ii_eqF, ii_m1F, ↓cb_2 hC, ↓cb_1 hC, ↓cb_3 hC, ↓cb_4 hC, ↓cb_5 hC, ↓cb_6 hC, ↓cb_7 hC, ↓cb_10 hC, ↓cb_17 hC, ↓cb_18 hC, ↓cb_19 hC, ↓cb_20 hC, ↓cb_21 hC, ↓cb_22 hC, ↓cb_23 hC, ↓cb_8 hC, ↓cb_9 hC, ↓cb_24 hC, ↓cb_16 hC, ↓cb29_0 hC, ↓cb29_1 hC, ↓sb_0 hS, ↓sb1_0 hS, ↓sb1_1 hS, ↓sb1_2 hS, ↓sb_1 hS, ↓sb_2 hS, ↓sb_3 hS, ↓sb_4 hS, ↓sb_5 hS, ↓sb_6 hS, ↓sb_7 hS, hC, hS, ↓bb_0 hB, ↓bb_1 hB, ↓bb_2 hB, hB, eC, ↓bn_of eo]
theorem TbR_go (ht : TbR I t g) {ch l : Nat} (hk : k ≤ 4) (hch : ch < k) : TbR (uI (uI I (t + 1) ch (acrG g ch l)) (t + 2) ch (ii l)) t (goG ch l g) := by
  obtain ⟨h1, h2, h3, h4⟩ := ht
  unfold goG
  refine ⟨?_, fun j hj => ?_, fun j hj => ?_, fun j hj => ?_⟩
  · rw [uI_ne (by omega), uI_ne (by omega), upd_ne (by omega), upd_ne (by omega)]; exact h1
  · rw [uI_ne (by omega), uI_at, upd_ne (by omega)]
    by_cases q : j = ch
    · rw [if_pos q, q, upd_hit]
    · rw [if_neg q, upd_ne (by omega)]; exact h2 j hj
  · rw [uI_at, uI_ne (by omega)]
    by_cases q : j = ch
    · rw [if_pos q, q, upd_hit]
    · rw [if_neg q, upd_ne (by omega), upd_ne (by omega)]; exact h3 j hj
  · rw [uI_ne (by omega), uI_ne (by omega), upd_ne (by omega), upd_ne (by omega)]; exact h4 j hj
/-- an hour passes: the component -/
theorem c_passes (hT : CTold nf c s D fz T0 N0 I0 R0) (hfz : ∀ a, fz a → T a = T0 a ∧ N a = N0 a ∧ I a = I0 a ∧ R a = R0 a) (hf2 : ∀ a, fz a → a = c + 13 ∨ a = c + 14 ∨ c + 202 ≤ a) (hs : s = c + 2) (htr : t = s + 1 ∨ (c + 13 < t ∧ t + 3 < c + 31) ∨ (c + 38 < t ∧ t + 3 < c + 171)) (hC : CSh c s T N R) (hS : StSh s T N R) (hB : TbSh t T N R) (hr : StR I s g) (ht : TbR I t g) (ho : rOK g n k H) (hH : H ≤ 2000) (hnf : 70 < nf) :
    ∃ I' w, fX0_passes nf T N I L R c t = some (ii (goA D g n k).1, I', sL L (c + 31) w) ∧ TbR I' t (passG D n k g) ∧ (∀ a, a ≠ t → a ≠ t + 1 → a ≠ t + 2 → a ≠ c + 32 → a ≠ c + 33 → I' a = I a) ∧ (∀ j, j ≠ 3 → I' t j = I t j) := by
  have hn := ho.1.2.1
  have hk := ho.1.2.2.2
  have hg1 := ho.1.2.2.1
  have hh : ∀ x y, (∀ a, fz a → T a = T0 a ∧ N a = N0 a ∧ sI (sI I (c + 32) x) (c + 33) y a = I0 a ∧ R a = R0 a) ∧ StR (sI (sI I (c + 32) x) (c + 33) y) s g ∧ TbR (sI (sI I (c + 32) x) (c + 33) y) t g := by
    intro x y
    refine ⟨fun a ha => ?_, ?_, ?_⟩
    · have := hf2 a ha
      rw [sI_ne (by omega), sI_ne (by omega)]
      exact hfz a ha
    · exact StR_I hr (fun a ha => by rw [sI_ne (by omega), sI_ne (by omega)])
    · exact TbR_I ht (by rw [sI_ne (by omega), sI_ne (by omega)]) (by rw [sI_ne (by omega), sI_ne (by omega)]) (by rw [sI_ne (by omega), sI_ne (by omega)]) (by rw [sI_ne (by omega), sI_ne (by omega)])
  have loop1 := loop_rel (fun q (p : ((Nat → Int32) × (Nat → Int32)) × (Nat → Int64)) ch => fX0_passes_b4 nf T N R q (sI (sI I (c + 32) p.1.1) (c + 33) p.1.2) (sL L (c + 31) p.2) c t (ii 0) (ii ch)) (fun ch p => ∀ j, j < ch → p.1.2 j = laneG D g n j) k (fun p => fX0_passes_b35 nf T N R nf (sI (sI I (c + 32) p.1.1) (c + 33) p.1.2) (sL L (c + 31) p.2) c t (ii 0) (ii 0)) ?_ ?_ k 0 ((I (c + 32), I (c + 33)), L (c + 31)) nf (by omega) (by omega) (fun j hj => by omega)
  · obtain ⟨⟨⟨x, y⟩, w⟩, e, hy⟩ := loop1
    have hy : ∀ j, j < k → y j = laneG D g n j := hy
    obtain ⟨f1, f2, f3⟩ := hh x y
    have loop2 := loop_rel (fun q (K : xI) ch => fX0_passes_b35 nf T N R q K (sL L (c + 31) w) c t (ii (rngF (goS (laneG D g n)) ch 0 (0, g)).1) (ii ch)) (fun ch K => TbR K t (rngF (goS (laneG D g n)) ch 0 (0, g)).2 ∧ ∀ a, a ≠ t + 1 → a ≠ t + 2 → K a = sI (sI I (c + 32) x) (c + 33) y a) k (fun K => some (ii (goA D g n k).1, uI K t 3 (K t 3 + ii 1), sL L (c + 31) w)) ?_ ?_ k 0 (sI (sI I (c + 32) x) (c + 33) y) nf (by omega) (by omega) ⟨f3, fun _ _ _ => rfl⟩
    · obtain ⟨K, e2, hK, hK2⟩ := loop2
      refine ⟨uI K t 3 (K t 3 + ii 1), w, ?_, ?_, ?_, ?_⟩
      · simp only [sI_id, sL_id] at e
        have e0 : sI (sI I (c + 32) (I (c + 32))) (c + 33) (I (c + 33)) = I := by
          rw [sI_id]
          exact sI_id _ _
        unfold fX0_passes
        exact e.trans e2
      · unfold passG
        obtain ⟨g1, g2, g3, g4⟩ := hK
        refine ⟨?_, fun j hj => ?_, fun j hj => ?_, fun j hj => ?_⟩
        · rw [uI_hit, upd_hit]
          show K t 3 + ii 1 = _
          rw [g1]
          rfl
        · rw [uI_ne (by omega), upd_ne (by omega)]; exact g2 j hj
        · rw [uI_ne (by omega), upd_ne (by omega)]; exact g3 j hj
        · rw [uI_ne (by omega), upd_ne (by omega)]; exact g4 j hj
      · intro a a1 a2 a3 a4 a5
        rw [uI_ne a1, hK2 a a2 a3, sI_ne a5, sI_ne a4]
      · intro j hj
        rw [uI_mis hj, hK2 t (by omega) (by omega), sI_ne (by omega), sI_ne (by omega)]
    · rintro q K ch hch ⟨hK, hK2⟩
      obtain ⟨go1, go2⟩ := goA_ok (D := D) ho ch (by omega)
      have hrK : StR K s (rngF (goS (laneG D g n)) ch 0 (0, g)).2 := StR_g (StR_I f2 (fun a ha => hK2 a (by omega) (by omega))) (fun i hi => go2 i (by omega))
      have hk9 : K s 9 = ii k := by
        rw [hK2 s (by omega) (by omega)]
        exact f2.2.1.trans hg1
      have hgo : K (c + 33) ch = laneG D g n ch := by
        rw [hK2 (c + 33) (by omega) (by omega), sI_at]
        exact hy ch hch
      rw [rngF_s]
      unfold goS
      rcases lane_ok D g n ch with e3 | ⟨j, hj, _, e3⟩
      · refine ⟨K, ?_, ?_⟩
        · rw [if_pos e3]
          show fX0_passes_b35 nf T N R (q + 1) K (sL L (c + 31) w) c t (ii (rngF (goS (laneG D g n)) ch 0 (0, g)).1) (ii ch) = _
          rw [fX0_passes_b35]
          rw [e3] at hgo
          simp (disch := omega) only [↓nm_v, ↓tg, ↓rA, ↓chk_if, ↓reduceIte, inb_ii, ii_nat, ii_add, and_self, bi_zb, if_bi, if_bi1, ii_leT, ii_leF, ii_ltT, ii_ltF, ii_eqF, ii_m1F, ↓cb_2 hC, ↓cb_1 hC, ↓cb_3 hC, ↓cb_4 hC, ↓cb_5 hC, ↓cb_6 hC, ↓cb_7 hC, ↓cb_10 hC, ↓cb_17 hC, ↓cb_18 hC, ↓cb_19 hC, ↓cb_20 hC, ↓cb_21 hC, ↓cb_22 hC, ↓cb_23 hC, ↓cb_8 hC, ↓cb_9 hC, ↓cb_24 hC, ↓cb_16 hC, ↓cb29_0 hC, ↓cb29_1 hC, ↓sb_0 hS, ↓sb1_0 hS, ↓sb1_1 hS, ↓sb1_2 hS, ↓sb_1 hS, ↓sb_2 hS, ↓sb_3 hS, ↓sb_4 hS, ↓sb_5 hS, ↓sb_6 hS, ↓sb_7 hS, hC, hS, hk9, hgo]
          rfl
        · rw [if_pos e3]
          exact ⟨hK, hK2⟩
      · have hne : ¬ laneG D g n ch = -1 := by rw [e3]; exact ii_m1 (by omega)
        have eg := c_goes (I := K) (l := j) hC hS hB hrK hK hn hk hch hj (by omega)
        rw [e3] at hgo
        refine ⟨uI (uI K (t + 1) ch (acrG (rngF (goS (laneG D g n)) ch 0 (0, g)).2 ch j)) (t + 2) ch (ii j), ?_, ?_⟩
        · rw [if_neg hne]
          show fX0_passes_b35 nf T N R (q + 1) K (sL L (c + 31) w) c t (ii (rngF (goS (laneG D g n)) ch 0 (0, g)).1) (ii ch) = _
          rw [fX0_passes_b35]
          simp (disch := omega) only [↓nm_v, ↓tg, ↓rA, ↓chk_if, ↓reduceIte, inb_ii, ii_nat, ii_add, and_self, bi_zb, if_bi, if_bi1, ii_leT, ii_leF, ii_ltT, ii_ltF, ii_eqF, ii_m1F, ↓cb_2 hC, ↓cb_1 hC, ↓cb_3 hC, ↓cb_4 hC, ↓cb_5 hC, ↓cb_6 hC, ↓cb_7 hC, ↓cb_10 hC, ↓cb_17 hC, ↓cb_18 hC, ↓cb_19 hC, ↓cb_20 hC, ↓cb_21 hC, ↓cb_22 hC, ↓cb_23 hC, ↓cb_8 hC, ↓cb_9 hC, ↓cb_24 hC, ↓cb_16 hC, ↓cb29_0 hC, ↓cb29_1 hC, ↓sb_0 hS, ↓sb1_0 hS, ↓sb1_1 hS, ↓sb1_2 hS, ↓sb_1 hS, ↓sb_2 hS, ↓sb_3 hS, ↓sb_4 hS, ↓sb_5 hS, ↓sb_6 hS, ↓sb_7 hS, hC, hS, hk9, hgo, ↓bn_of eg]
          rfl
        · rw [if_neg hne, e3, ii_nat (by omega)]
          refine ⟨TbR_go hK hk hch, fun a a1 a2 => ?_⟩
          rw [uI_ne a2, uI_ne a1]
          exact hK2 a a1 a2
    · rintro q K ⟨hK, hK2⟩
      have hk9 : K s 9 = ii k := by
        rw [hK2 s (by omega) (by omega)]
        exact f2.2.1.trans hg1
      show fX0_passes_b35 nf T N R (q + 1) K (sL L (c + 31) w) c t (ii (rngF (goS (laneG D g n)) k 0 (0, g)).1) (ii k) = _
      rw [fX0_passes_b35]
      simp (disch := omega) only [↓nm_v, ↓tg, ↓rA, ↓chk_if, ↓reduceIte, inb_ii, ii_nat, ii_add, and_self, bi_zb, if_bi, if_bi1, ii_leT, ii_leF, ii_ltT, ii_ltF, ii_eqF, ii_m1F, ↓cb_2 hC, ↓cb_1 hC, ↓cb_3 hC, ↓cb_4 hC, ↓cb_5 hC, ↓cb_6 hC, ↓cb_7 hC, ↓cb_10 hC, ↓cb_17 hC, ↓cb_18 hC, ↓cb_19 hC, ↓cb_20 hC, ↓cb_21 hC, ↓cb_22 hC, ↓cb_23 hC, ↓cb_8 hC, ↓cb_9 hC, ↓cb_24 hC, ↓cb_16 hC, ↓cb29_0 hC, ↓cb29_1 hC, ↓sb_0 hS, ↓sb1_0 hS, ↓sb1_1 hS, ↓sb1_2 hS, ↓sb_1 hS, ↓sb_2 hS, ↓sb_3 hS, ↓sb_4 hS, ↓sb_5 hS, ↓sb_6 hS, ↓sb_7 hS, hC, hS, ↓bb_0 hB, ↓bb_1 hB, ↓bb_2 hB, hB, hk9]
      rfl
  · rintro q ⟨⟨x, y⟩, w⟩ ch hch hy
    have hy : ∀ j, j < ch → y j = laneG D g n j := hy
    obtain ⟨f1, f2, f3⟩ := hh x y
    obtain ⟨x2, w2, e2⟩ := c_laneNext (L := sL L (c + 31) w) hT f1 hf2 hs (by omega) hC hS hB f2 f3 ho hH hnf hch
    have hk9 : sI (sI I (c + 32) x) (c + 33) y s 9 = ii k := f2.2.1.trans hg1
    have ex : sI (sI (sI I (c + 32) x) (c + 33) y) (c + 32) x2 = sI (sI I (c + 32) x2) (c + 33) y := sI2 I (by omega) x x2 y
    rw [ex, sL_sL] at e2
    refine ⟨((x2, upd y ch (laneG D g n ch)), w2), ?_, ?_⟩
    · show fX0_passes_b4 nf T N R (q + 1) (sI (sI I (c + 32) x) (c + 33) y) (sL L (c + 31) w) c t (ii 0) (ii ch) = _
      rw [fX0_passes_b4]
      simp (disch := omega) only [↓nm_v, ↓tg, ↓rA, ↓chk_if, ↓reduceIte, inb_ii, ii_nat, ii_add, and_self, bi_zb, if_bi, if_bi1, ii_leT, ii_leF, ii_ltT, ii_ltF, ii_eqF, ii_m1F, ↓cb_2 hC, ↓cb_1 hC, ↓cb_3 hC, ↓cb_4 hC, ↓cb_5 hC, ↓cb_6 hC, ↓cb_7 hC, ↓cb_10 hC, ↓cb_17 hC, ↓cb_18 hC, ↓cb_19 hC, ↓cb_20 hC, ↓cb_21 hC, ↓cb_22 hC, ↓cb_23 hC, ↓cb_8 hC, ↓cb_9 hC, ↓cb_24 hC, ↓cb_16 hC, ↓cb29_0 hC, ↓cb29_1 hC, ↓sb_0 hS, ↓sb1_0 hS, ↓sb1_1 hS, ↓sb1_2 hS, ↓sb_1 hS, ↓sb_2 hS, ↓sb_3 hS, ↓sb_4 hS, ↓sb_5 hS, ↓sb_6 hS, ↓sb_7 hS, hC, hS, hk9, ↓b3_of e2, uI_sI]
    · intro j hj
      show upd y ch (laneG D g n ch) j = _
      rw [upd_at]
      by_cases q : j = ch
      · rw [if_pos q, q]
      · rw [if_neg q]
        exact hy j (by omega)
  · rintro q ⟨⟨x, y⟩, w⟩ hy
    obtain ⟨f1, f2, f3⟩ := hh x y
    have hk9 : sI (sI I (c + 32) x) (c + 33) y s 9 = ii k := f2.2.1.trans hg1
    show fX0_passes_b4 nf T N R (q + 1) (sI (sI I (c + 32) x) (c + 33) y) (sL L (c + 31) w) c t (ii 0) (ii k) = _
    rw [fX0_passes_b4]
    simp (disch := omega) only [↓nm_v, ↓tg, ↓rA, ↓chk_if, ↓reduceIte, inb_ii, ii_nat, ii_add, and_self, bi_zb, if_bi, if_bi1, ii_leT, ii_leF, ii_ltT, ii_ltF, ii_eqF, ii_m1F, ↓cb_2 hC, ↓cb_1 hC, ↓cb_3 hC, ↓cb_4 hC, ↓cb_5 hC, ↓cb_6 hC, ↓cb_7 hC, ↓cb_10 hC, ↓cb_17 hC, ↓cb_18 hC, ↓cb_19 hC, ↓cb_20 hC, ↓cb_21 hC, ↓cb_22 hC, ↓cb_23 hC, ↓cb_8 hC, ↓cb_9 hC, ↓cb_24 hC, ↓cb_16 hC, ↓cb29_0 hC, ↓cb29_1 hC, ↓sb_0 hS, ↓sb1_0 hS, ↓sb1_1 hS, ↓sb1_2 hS, ↓sb_1 hS, ↓sb_2 hS, ↓sb_3 hS, ↓sb_4 hS, ↓sb_5 hS, ↓sb_6 hS, ↓sb_7 hS, hC, hS, hk9]
/-- the model's heap but for the row and what passing leaves behind -/
def mSp (m : Nat) (I I' : xI) (L L' : xL) : Prop := (∀ a, a ≠ m → a ≠ m + 2 → a ≠ m + 21 → I' a = I a) ∧ (∀ j, j ≠ 34 → j ≠ 38 → I' m j = I m j) ∧ (∀ a, a ≠ m → a ≠ m + 18 → a ≠ m + 20 → L' a = L a) ∧ (∀ j, j ≠ 39 → j ≠ 40 → L' m j = L m j)
theorem mSp_refl (m : Nat) (I : xI) (L : xL) : mSp m I I L L := ⟨fun _ _ _ _ => rfl, fun _ _ _ => rfl, fun _ _ _ _ => rfl, fun _ _ _ => rfl⟩
theorem mSp_trans {I1 I2 : xI} {L1 L2 : xL} (h1 : mSp m I I1 L L1) (h2 : mSp m I1 I2 L1 L2) : mSp m I I2 L L2 :=
  ⟨fun a x y z => (h2.1 a x y z).trans (h1.1 a x y z), fun j a b => (h2.2.1 j a b).trans (h1.2.1 j a b), fun a x y z => (h2.2.2.1 a x y z).trans (h1.2.2.1 a x y z), fun j a b => (h2.2.2.2 j a b).trans (h1.2.2.2 j a b)⟩
theorem mSp_sc {I' : xI} {L' : xL} (h : mSc m I I' L L') : mSp m I I' L L' := ⟨fun a x _ _ => h.1 a x, h.2.1, h.2.2.1, h.2.2.2⟩
theorem m_goAlong (hM : MSh m T N R) (hg : I (m + 2) = g) (hn : n ≤ 10) (hk : k ≤ 4) {ch l : Nat} (hch : ch < k) (hl : l < n) : fX5_goAlong T N I R m (ii ch) (ii l) = some (sI I (m + 2) (goG ch l g)) := by
  have ea : fX5_across T N I R m (ii l) (g (18 + ch)) = some (acrG g ch l) := by
    unfold fX5_across acrG
    by_cases p : g (26 + l) = g (18 + ch)
    · simp (disch := omega) only [↓nm_v, ↓tg, ↓rA, ↓chk_if, ↓reduceIte, inb_ii, ii_nat, ii_add, and_self, bi_zb, if_bi, if_bi1, ii_leT, ii_leF, ii_ltT, ii_ltF, ii_eqF, ii_m1F, ↓mb_2 hM, ↓mb_3 hM, ↓mb_4 hM, ↓mb_5 hM, ↓mb_6 hM, ↓mb_7 hM, ↓mb_9 hM, ↓mb_10 hM, ↓mb_12 hM, ↓mb_22 hM, ↓mb_24 hM, ↓mb_25 hM, ↓mb_27 hM, ↓mb_28 hM, ↓mb_31 hM, ↓mb_32 hM, ↓mb_33 hM, ↓mb_35 hM, ↓mb_36 hM, ↓mb_37 hM, ↓mb_41 hM, ↓mb_42 hM, ↓mb_43 hM, ↓mb_44 hM, ↓mb_45 hM, ↓mb_46 hM, ↓mb_47 hM, ↓mb_48 hM, ↓mb_49 hM, ↓mb_55 hM, hM, hg, p]
    · simp (disch := omega) only [↓nm_v, ↓tg, ↓rA, ↓chk_if, ↓reduceIte, inb_ii, ii_nat, ii_add, and_self, bi_zb, if_bi, if_bi1, ii_leT, ii_leF, ii_ltT, ii_ltF, ii_eqF, ii_m1F, ↓mb_2 hM, ↓mb_3 hM, ↓mb_4 hM, ↓mb_5 hM, ↓mb_6 hM, ↓mb_7 hM, ↓mb_9 hM, ↓mb_10 hM, ↓mb_12 hM, ↓mb_22 hM, ↓mb_24 hM, ↓mb_25 hM, ↓mb_27 hM, ↓mb_28 hM, ↓mb_31 hM, ↓mb_32 hM, ↓mb_33 hM, ↓mb_35 hM, ↓mb_36 hM, ↓mb_37 hM, ↓mb_41 hM, ↓mb_42 hM, ↓mb_43 hM, ↓mb_44 hM, ↓mb_45 hM, ↓mb_46 hM, ↓mb_47 hM, ↓mb_48 hM, ↓mb_49 hM, ↓mb_55 hM, hM, hg, p]
  unfold fX5_goAlong goG
  simp (disch := omega) only [↓nm_v, ↓tg, ↓rA, ↓chk_if, ↓reduceIte, inb_ii, ii_nat, ii_add, and_self, bi_zb, if_bi, if_bi1, ii_leT, ii_leF, ii_ltT, ii_ltF, ii_eqF, ii_m1F, ↓mb_2 hM, ↓mb_3 hM, ↓mb_4 hM, ↓mb_5 hM, ↓mb_6 hM, ↓mb_7 hM, ↓mb_9 hM, ↓mb_10 hM, ↓mb_12 hM, ↓mb_22 hM, ↓mb_24 hM, ↓mb_25 hM, ↓mb_27 hM, ↓mb_28 hM, ↓mb_31 hM, ↓mb_32 hM, ↓mb_33 hM, ↓mb_35 hM, ↓mb_36 hM, ↓mb_37 hM, ↓mb_41 hM, ↓mb_42 hM, ↓mb_43 hM, ↓mb_44 hM, ↓mb_45 hM, ↓mb_46 hM, ↓mb_47 hM, ↓mb_48 hM, ↓mb_49 hM, ↓mb_55 hM, hM, hg, ↓bn_of ea, uI_s I, uI_sI]
/-- an hour passes: the model -/
theorem m_passIt (h1 : bar1 D) {tx : Nat → Int32} (hT : MTold nf m D T N R tx) (hM : MSh m T N R) (hh : mH m g tx I) (ho : rOK g n k H) (hH : H ≤ 2000) (hnf : 70 < nf) :
    ∃ I' L', fX5_passIt nf T N I L R m = some (ii (goA D g n k).1, I', L') ∧ I' (m + 2) = passG D n k g ∧ mSp m I I' L L' := by
  have hn := ho.1.2.1
  have hk := ho.1.2.2.2
  have hg1 := ho.1.2.2.1
  have loop1 := loop_rel (fun q (p : xI × xL) ch => fX5_passIt_b4 nf T N R q p.1 p.2 m (ii 0) (ii ch)) (fun ch p => (∀ j, j < ch → p.1 (m + 21) j = laneG D g n j) ∧ mH m g tx p.1 ∧ mSp m I p.1 L p.2) k (fun p => fX5_passIt_b33 nf T N R nf p.1 p.2 m (ii 0) (ii 0)) ?_ ?_ k 0 (I, L) nf (by omega) (by omega) ⟨fun j hj => by omega, hh, mSp_refl _ _ _⟩
  · obtain ⟨⟨J, M⟩, e, hy, hJ, hp⟩ := loop1
    have hy : ∀ j, j < k → J (m + 21) j = laneG D g n j := hy
    have hJ : mH m g tx J := hJ
    have hp : mSp m I J L M := hp
    have loop2 := loop_rel (fun q (K : xI) ch => fX5_passIt_b33 nf T N R q K M m (ii (rngF (goS (laneG D g n)) ch 0 (0, g)).1) (ii ch)) (fun ch K => K (m + 2) = (rngF (goS (laneG D g n)) ch 0 (0, g)).2 ∧ ∀ a, a ≠ m + 2 → K a = J a) k (fun K => some (ii (goA D g n k).1, uI K (m + 2) 5 (K (m + 2) 5 + ii 1), M)) ?_ ?_ k 0 J nf (by omega) (by omega) ⟨hJ.1, fun _ _ => rfl⟩
    · obtain ⟨K, e2, hK, hK2⟩ := loop2
      refine ⟨uI K (m + 2) 5 (K (m + 2) 5 + ii 1), M, e.trans e2, ?_, ?_⟩
      · rw [uI_s, sI_at, hK]
        rfl
      · refine mSp_trans hp ⟨fun a _ a2 _ => ?_, fun j _ _ => ?_, fun _ _ _ _ => rfl, fun _ _ _ => rfl⟩
        · rw [uI_ne a2]
          exact hK2 a a2
        · rw [uI_ne (by omega)]
          rw [hK2 m (by omega)]
    · rintro q K ch hch ⟨hK, hK2⟩
      obtain ⟨go1, go2⟩ := goA_ok (D := D) ho ch (by omega)
      have hk1 : K (m + 2) 1 = ii k := by
        rw [hK, go2 1 (by omega)]
        exact hg1
      have hgo : K (m + 21) ch = laneG D g n ch := by
        rw [hK2 (m + 21) (by omega)]
        exact hy ch hch
      rw [rngF_s]
      unfold goS
      rcases lane_ok D g n ch with e3 | ⟨j, hj, _, e3⟩
      · refine ⟨K, ?_, ?_⟩
        · rw [if_pos e3]
          show fX5_passIt_b33 nf T N R (q + 1) K M m (ii (rngF (goS (laneG D g n)) ch 0 (0, g)).1) (ii ch) = _
          rw [fX5_passIt_b33]
          rw [e3] at hgo
          simp (disch := omega) only [↓nm_v, ↓tg, ↓rA, ↓chk_if, ↓reduceIte, inb_ii, ii_nat, ii_add, and_self, bi_zb, if_bi, if_bi1, ii_leT, ii_leF, ii_ltT, ii_ltF, ii_eqF, ii_m1F, ↓mb_2 hM, ↓mb_3 hM, ↓mb_4 hM, ↓mb_5 hM, ↓mb_6 hM, ↓mb_7 hM, ↓mb_9 hM, ↓mb_10 hM, ↓mb_12 hM, ↓mb_22 hM, ↓mb_24 hM, ↓mb_25 hM, ↓mb_27 hM, ↓mb_28 hM, ↓mb_31 hM, ↓mb_32 hM, ↓mb_33 hM, ↓mb_35 hM, ↓mb_36 hM, ↓mb_37 hM, ↓mb_41 hM, ↓mb_42 hM, ↓mb_43 hM, ↓mb_44 hM, ↓mb_45 hM, ↓mb_46 hM, ↓mb_47 hM, ↓mb_48 hM, ↓mb_49 hM, ↓mb_55 hM, hM, hk1, hgo]
          rfl
        · rw [if_pos e3]
          exact ⟨hK, hK2⟩
      · have hne : ¬ laneG D g n ch = -1 := by rw [e3]; exact ii_m1 (by omega)
        have eg := m_goAlong (I := K) (l := j) hM hK hn hk hch hj
        rw [e3] at hgo
        refine ⟨sI K (m + 2) (goG ch j (rngF (goS (laneG D g n)) ch 0 (0, g)).2), ?_, ?_⟩
        · rw [if_neg hne]
          show fX5_passIt_b33 nf T N R (q + 1) K M m (ii (rngF (goS (laneG D g n)) ch 0 (0, g)).1) (ii ch) = _
          rw [fX5_passIt_b33]
          simp (disch := omega) only [↓nm_v, ↓tg, ↓rA, ↓chk_if, ↓reduceIte, inb_ii, ii_nat, ii_add, and_self, bi_zb, if_bi, if_bi1, ii_leT, ii_leF, ii_ltT, ii_ltF, ii_eqF, ii_m1F, ↓mb_2 hM, ↓mb_3 hM, ↓mb_4 hM, ↓mb_5 hM, ↓mb_6 hM, ↓mb_7 hM, ↓mb_9 hM, ↓mb_10 hM, ↓mb_12 hM, ↓mb_22 hM, ↓mb_24 hM, ↓mb_25 hM, ↓mb_27 hM, ↓mb_28 hM, ↓mb_31 hM, ↓mb_32 hM, ↓mb_33 hM, ↓mb_35 hM, ↓mb_36 hM, ↓mb_37 hM, ↓mb_41 hM, ↓mb_42 hM, ↓mb_43 hM, ↓mb_44 hM, ↓mb_45 hM, ↓mb_46 hM, ↓mb_47 hM, ↓mb_48 hM, ↓mb_49 hM, ↓mb_55 hM, hM, hk1, hgo, ↓bn_of eg]
          rfl
        · rw [if_neg hne, e3, ii_nat (by omega)]
          refine ⟨sI_at _ _ _, fun a a2 => ?_⟩
          rw [sI_ne a2]
          exact hK2 a a2
    · rintro q K ⟨hK, hK2⟩
      obtain ⟨go1, go2⟩ := goA_ok (D := D) ho k (by omega)
      have hk1 : K (m + 2) 1 = ii k := by
        rw [hK, go2 1 (by omega)]
        exact hg1
      show fX5_passIt_b33 nf T N R (q + 1) K M m (ii (rngF (goS (laneG D g n)) k 0 (0, g)).1) (ii k) = _
      rw [fX5_passIt_b33]
      simp (disch := omega) only [↓nm_v, ↓tg, ↓rA, ↓chk_if, ↓reduceIte, inb_ii, ii_nat, ii_add, and_self, bi_zb, if_bi, if_bi1, ii_leT, ii_leF, ii_ltT, ii_ltF, ii_eqF, ii_m1F, ↓mb_2 hM, ↓mb_3 hM, ↓mb_4 hM, ↓mb_5 hM, ↓mb_6 hM, ↓mb_7 hM, ↓mb_9 hM, ↓mb_10 hM, ↓mb_12 hM, ↓mb_22 hM, ↓mb_24 hM, ↓mb_25 hM, ↓mb_27 hM, ↓mb_28 hM, ↓mb_31 hM, ↓mb_32 hM, ↓mb_33 hM, ↓mb_35 hM, ↓mb_36 hM, ↓mb_37 hM, ↓mb_41 hM, ↓mb_42 hM, ↓mb_43 hM, ↓mb_44 hM, ↓mb_45 hM, ↓mb_46 hM, ↓mb_47 hM, ↓mb_48 hM, ↓mb_49 hM, ↓mb_55 hM, hM, hk1]
      rfl
  · rintro q ⟨J, M⟩ ch hch ⟨hy, hJ, hp⟩
    have hy : ∀ j, j < ch → J (m + 21) j = laneG D g n j := hy
    have hJ : mH m g tx J := hJ
    have hp : mSp m I J L M := hp
    obtain ⟨J2, M2, e2, hs2⟩ := m_laneOf (L := M) h1 hT hM hJ ho hH hnf hch
    have hk1 : J (m + 2) 1 = ii k := by rw [hJ.1]; exact hg1
    have hJ2 := mH_sc hJ hs2
    refine ⟨(uI J2 (m + 21) ch (laneG D g n ch), M2), ?_, ?_, ?_, ?_⟩
    · show fX5_passIt_b4 nf T N R (q + 1) J M m (ii 0) (ii ch) = _
      rw [fX5_passIt_b4]
      simp (disch := omega) only [↓nm_v, ↓tg, ↓rA, ↓chk_if, ↓reduceIte, inb_ii, ii_nat, ii_add, and_self, bi_zb, if_bi, if_bi1, ii_leT, ii_leF, ii_ltT, ii_ltF, ii_eqF, ii_m1F, ↓mb_2 hM, ↓mb_3 hM, ↓mb_4 hM, ↓mb_5 hM, ↓mb_6 hM, ↓mb_7 hM, ↓mb_9 hM, ↓mb_10 hM, ↓mb_12 hM, ↓mb_22 hM, ↓mb_24 hM, ↓mb_25 hM, ↓mb_27 hM, ↓mb_28 hM, ↓mb_31 hM, ↓mb_32 hM, ↓mb_33 hM, ↓mb_35 hM, ↓mb_36 hM, ↓mb_37 hM, ↓mb_41 hM, ↓mb_42 hM, ↓mb_43 hM, ↓mb_44 hM, ↓mb_45 hM, ↓mb_46 hM, ↓mb_47 hM, ↓mb_48 hM, ↓mb_49 hM, ↓mb_55 hM, hM, hk1, ↓b3_of e2]
    · intro j hj
      show uI J2 (m + 21) ch (laneG D g n ch) (m + 21) j = _
      rw [uI_at]
      by_cases q : j = ch
      · rw [if_pos q, q]
      · rw [if_neg q, hs2.1 (m + 21) (by omega)]
        exact hy j (by omega)
    · refine ⟨?_, hJ2.2.1, ?_⟩
      · show uI J2 (m + 21) ch (laneG D g n ch) (m + 2) = g
        rw [uI_ne (by omega)]
        exact hJ2.1
      · show uI J2 (m + 21) ch (laneG D g n ch) m 20 = ii 0
        rw [uI_ne (by omega)]
        exact hJ2.2.2
    · refine mSp_trans hp (mSp_trans (mSp_sc hs2) ⟨fun a a1 a2 a3 => ?_, fun j _ _ => ?_, fun _ _ _ _ => rfl, fun _ _ _ => rfl⟩)
      · show uI J2 (m + 21) ch (laneG D g n ch) a = J2 a
        rw [uI_ne a3]
      · show uI J2 (m + 21) ch (laneG D g n ch) m j = J2 m j
        rw [uI_ne (by omega)]
  · rintro q ⟨J, M⟩ ⟨hy, hJ, hp⟩
    have hJ : mH m g tx J := hJ
    have hk1 : J (m + 2) 1 = ii k := by rw [hJ.1]; exact hg1
    show fX5_passIt_b4 nf T N R (q + 1) J M m (ii 0) (ii k) = _
    rw [fX5_passIt_b4]
    simp (disch := omega) only [↓nm_v, ↓tg, ↓rA, ↓chk_if, ↓reduceIte, inb_ii, ii_nat, ii_add, and_self, bi_zb, if_bi, if_bi1, ii_leT, ii_leF, ii_ltT, ii_ltF, ii_eqF, ii_m1F, ↓mb_2 hM, ↓mb_3 hM, ↓mb_4 hM, ↓mb_5 hM, ↓mb_6 hM, ↓mb_7 hM, ↓mb_9 hM, ↓mb_10 hM, ↓mb_12 hM, ↓mb_22 hM, ↓mb_24 hM, ↓mb_25 hM, ↓mb_27 hM, ↓mb_28 hM, ↓mb_31 hM, ↓mb_32 hM, ↓mb_33 hM, ↓mb_35 hM, ↓mb_36 hM, ↓mb_37 hM, ↓mb_41 hM, ↓mb_42 hM, ↓mb_43 hM, ↓mb_44 hM, ↓mb_45 hM, ↓mb_46 hM, ↓mb_47 hM, ↓mb_48 hM, ↓mb_49 hM, ↓mb_55 hM, hM, hk1]
end
