/-! PLAIN LAND, 35: the component's telling out of its laws -/
/-- what a law at p tells, at every heap like this where fz holds, with any setting -/
def LawF (nf : Nat) (fz : Nat → Prop) (T0 N0 : xT) (I0 : xI) (R0 : xR) (p : Nat) (d : Nat → Den) : Prop :=
  ∀ (T N : xT) (I : xI) (L : xL) (R : xR) (st b va : Nat), (∀ a, fz a → T a = T0 a ∧ N a = N0 a ∧ I a = I0 a ∧ R a = R0 a) → T st = 4 → R st 0 = some b → T b = 5 → R st 1 = some va → T va = 103 → N va = 19 → (∀ i, i < 9 → -2000 ≤ (L va i).toInt ∧ (L va i).toInt ≤ 2000) →
    T p = 17 ∧ ∀ h, h < 3 → d h (L va) ≠ some (-4000000000) ∧ fX19_told nf T N I L R p (ii h) st = some ((d h (L va)).getD (-4000000000))
/-- only the first nine values count -/
def loc9 (d : Nat → Den) : Prop := ∀ h v v', (∀ i, i < 9 → v i = v' i) → d h v = d h v'
/-- the laws of a state at s -/
def LwC (nf : Nat) (fz : Nat → Prop) (T N : xT) (I : xI) (R : xR) (s e nl : Nat) (D : Laws) : Prop :=
  R (s + 11) 1 = some e ∧ T e = 104 ∧ nl ≤ N e ∧ N e < 1000 ∧ I (s + 11) 2 = ii nl ∧ nl ≤ 6 ∧ (∀ j, j < nl → loc9 (D j) ∧ ∃ p, R e j = some p ∧ LawF nf fz T N I R p (D j))
section
variable {T N : xT} {R : xR} {I : xI} {L : xL} {c s m n k nf nl e : Nat} {D : Laws} {fz : Nat → Prop}
theorem env_bd {g : Nat → Int32} {H : Nat} (ho : rOK g n k H) (hH : H ≤ 2000) {ch : Nat} (hch : ch < k) {lane : Int32} (hl : lane = -1 ∨ ∃ l, l < n ∧ lane = ii l) : ∀ i, i < 9 → -2000 ≤ (envG g ch lane i).toInt ∧ (envG g ch lane i).toInt ≤ 2000 := by
  obtain ⟨⟨h1, h2, h3, h4⟩, h5, h6, h7, h8, h9, h10, h11, h12, h13, h14, h15, h16, h17, h18, h19, h20⟩ := ho
  have hm : (-1 : Int64).toInt = -1 := by decide
  have hm32 : (-1 : Int32).toInt64.toInt = -1 := by decide
  have key : ∀ v : Nat, v ≤ 2000 → -2000 ≤ ((ii v).toInt64).toInt ∧ ((ii v).toInt64).toInt ≤ 2000 := by
    intro v hv
    rw [i64_int, ii_toInt (by omega)]
    omega
  have a5 := h15 ch hch
  have a6 := h16 ch hch
  have a17 := h17 ch hch
  intro i hi
  unfold envG
  by_cases q0 : i = 0
  · rw [if_pos q0]; exact key ch (by omega)
  rw [if_neg q0]
  by_cases q1 : i = 1
  · rw [if_pos q1, a17.1]; exact key _ (by omega)
  rw [if_neg q1]
  by_cases q2 : i = 2
  · rw [if_pos q2]
    rcases hl with rfl | ⟨l, hl, rfl⟩
    · rw [hm32]; omega
    · exact key l (by omega)
  rw [if_neg q2]
  by_cases q3 : i = 3
  · rw [if_pos q3]
    rcases hl with rfl | ⟨l, hl, rfl⟩
    · rw [if_pos rfl, hm]; omega
    · rw [if_neg (ii_m1 (by omega)), ii_nat (by omega), (h12 l hl).1]
      exact key _ (by have := (h12 l hl).2; omega)
  rw [if_neg q3]
  by_cases q4 : i = 4
  · rw [if_pos q4]
    rcases hl with rfl | ⟨l, hl, rfl⟩
    · rw [if_pos rfl, hm]; omega
    · rw [if_neg (ii_m1 (by omega)), ii_nat (by omega), (h13 l hl).1]
      exact key _ (by have := (h13 l hl).2; omega)
  rw [if_neg q4]
  by_cases q5 : i = 5
  · rw [if_pos q5, a5.1]; exact key _ (by omega)
  rw [if_neg q5]
  by_cases q6 : i = 6
  · rw [if_pos q6]
    rcases a6 with a6 | a6
    · rw [a6, hm32]; omega
    · rw [a6.1]; exact key _ (by omega)
  rw [if_neg q6]
  by_cases q7 : i = 7
  · rw [if_pos q7, h6.1]; exact key _ (by omega)
  rw [if_neg q7, if_pos (show i = 8 by omega), h8.1]
  exact key _ (by omega)
/-- the values as told lays them -/
def valW (w : Nat → Int64) (g : Nat → Int32) (ch : Nat) (lane : Int32) : Nat → Int64 :=
  vp_updL (vp_updL (vp_updL (vp_updL (vp_updL (vp_updL (vp_updL (vp_updL (vp_updL w 0 (envG g ch lane 0)) 1 (envG g ch lane 1)) 2 (envG g ch lane 2)) 3 (envG g ch lane 3)) 4 (envG g ch lane 4)) 5 (envG g ch lane 5)) 6 (envG g ch lane 6)) 7 (envG g ch lane 7)) 8 (envG g ch lane 8)
theorem valW_at (w : Nat → Int64) (g : Nat → Int32) (ch : Nat) (lane : Int32) : ∀ i, i < 9 → valW w g ch lane i = envG g ch lane i := by
  intro i hi
  unfold valW
  simp only [updL_at]
  by_cases q8 : i = 8
  · rw [if_pos q8, q8]
  rw [if_neg q8]
  by_cases q7 : i = 7
  · rw [if_pos q7, q7]
  rw [if_neg q7]
  by_cases q6 : i = 6
  · rw [if_pos q6, q6]
  rw [if_neg q6]
  by_cases q5 : i = 5
  · rw [if_pos q5, q5]
  rw [if_neg q5]
  by_cases q4 : i = 4
  · rw [if_pos q4, q4]
  rw [if_neg q4]
  by_cases q3 : i = 3
  · rw [if_pos q3, q3]
  rw [if_neg q3]
  by_cases q2 : i = 2
  · rw [if_pos q2, q2]
  rw [if_neg q2]
  by_cases q1 : i = 1
  · rw [if_pos q1, q1]
  rw [if_neg q1, if_pos (show i = 0 by omega), show i = 0 by omega]
theorem CTold_of (hs : s = c + 2) (hL : LwC nf fz T N I R s e nl D) : CTold nf c s D (fun a => a = s + 11 ∨ a = e ∨ fz a) T N I R := by
  obtain ⟨l1, l2, l3, l4, l5, l6, l7⟩ := hL
  intro T' N' I' L' R' g t n k H hfz hC hS hB hr ht ho hH h ch lane hh hch hl
  have hk := ho.1.2.2.2
  have hn := ho.1.2.1
  have e13 := hr.2.2.2.1
  unfold toldG
  by_cases q : g 4 = -1
  · rw [if_pos q]
    refine ⟨(fun z => by cases z), L' (c + 31), ?_⟩
    rw [sL_id]
    unfold fX0_told
    simp (disch := omega) only [↓nm_v, ↓tg, ↓rA, ↓chk_if, ↓reduceIte, inb_ii, ii_nat, ii_add, and_self, bi_zb, if_bi, if_bi1, ii_leT, ii_leF, ii_ltT, ii_ltF, ii_eqF, ii_m1F, ↓cb_2 hC, ↓cb_1 hC, ↓cb_3 hC, ↓cb_4 hC, ↓cb_5 hC, ↓cb_6 hC, ↓cb_7 hC, ↓cb_10 hC, ↓cb_17 hC, ↓cb_18 hC, ↓cb_19 hC, ↓cb_20 hC, ↓cb_21 hC, ↓cb_22 hC, ↓cb_23 hC, ↓cb_8 hC, ↓cb_9 hC, ↓cb_24 hC, ↓cb_16 hC, ↓cb29_0 hC, ↓cb29_1 hC, ↓sb_0 hS, ↓sb1_0 hS, ↓sb1_1 hS, ↓sb1_2 hS, ↓sb_1 hS, ↓sb_2 hS, ↓sb_3 hS, ↓sb_4 hS, ↓sb_5 hS, ↓sb_6 hS, ↓sb_7 hS, hC, hS, e13, q, Option.getD_none]
  · rw [if_neg q]
    obtain ⟨x1, x2, x3, x4⟩ := hfz (s + 11) (Or.inl rfl)
    obtain ⟨y1, y2, y3, y4⟩ := hfz e (Or.inr (Or.inl rfl))
    have hf := ho.2.2.2.2.2.2.2.2.2.2.2.2.2.2.2.2
    rcases hf with hf | ⟨hf1, hf2⟩
    · exact absurd hf q
    have h3 : g 3 = ii nl := by
      rw [← hr.2.2.2.2.2.2.2.2.2.2.2.2, x3]
      exact l5
    have hfn : na g 4 < nl := by
      have : na g 3 = nl := by unfold na; rw [h3, ii_nat (by omega)]
      omega
    obtain ⟨lc, p, lp, lF⟩ := l7 (na g 4) hfn
    have eS : I' (s + 11) 2 = ii nl := by rw [x3]; exact l5
    have eE : R' (s + 11) 1 = some e := by rw [x4]; exact l1
    have eT : T' e = 104 := by rw [y1]; exact l2
    have eN : N' e = N e := y2
    have eP : R' e (na g 4) = some p := by rw [y4]; exact lp
    have hw := valW_at (L' (c + 31)) g ch lane
    have hbd := env_bd ho hH hch hl
    obtain ⟨tp, lt⟩ := lF T' N' I' (sL L' (c + 31) (valW (L' (c + 31)) g ch lane)) R' (c + 29) (c + 30) (c + 31) (fun a ha => hfz a (Or.inr (Or.inr ha))) hC.2.2.2.2.2.2.2.2.2.2.2.2.2.2.2.2.2.2.2.2.2.2.2.2.2.2.2.2.2.2.2.2.2.2.2.2.2.2.2.2.2.2.2.2.2.2.2.2.1 (by simp only [hC]) (by simp only [hC]) (by simp only [hC]) (by simp only [hC]) (by simp only [hC]) (by
      intro i hi
      rw [sL_at, hw i hi]
      exact hbd i hi)
    obtain ⟨lt1, lt2⟩ := lt h hh
    rw [sL_at, lc h _ (envG g ch lane) hw] at lt1 lt2
    refine ⟨lt1, valW (L' (c + 31)) g ch lane, ?_⟩
    have eget : fJ2_get T' N' I' R' (s + 11) (ii (na g 4)) = some p := by
      unfold fJ2_get fJ5_checkIndex fJ6_checkIndex_n3 fJ2_elementData
      simp (disch := omega) only [↓nm_v, ↓tg, ↓rA, ↓chk_if, ↓reduceIte, inb_ii, ii_nat, ii_add, and_self, bi_zb, if_bi, if_bi1, ii_leT, ii_leF, ii_ltT, ii_ltF, ii_eqF, ii_m1F, ↓sb_0 hS, ↓sb1_0 hS, ↓sb1_1 hS, ↓sb1_2 hS, ↓sb_1 hS, ↓sb_2 hS, ↓sb_3 hS, ↓sb_4 hS, ↓sb_5 hS, ↓sb_6 hS, ↓sb_7 hS, hS, eS, ↓bn_e, ↓sb eE, eT, eN, ↓sb eP]
    have e66 := hr.2.2.2.2.2.2.2.2.2.2.1 ch (by omega)
    have e18 := ht.2.1 ch (by omega)
    have e22 := ht.2.2.1 ch (by omega)
    have e5 := ht.1
    have e7 := hr.2.2.2.2.2.1
    rcases hl with rfl | ⟨l, hl, rfl⟩
    · have ew : valW (L' (c + 31)) g ch (-1) = vp_updL (vp_updL (vp_updL (vp_updL (vp_updL (vp_updL (vp_updL (vp_updL (vp_updL (L' (c + 31)) 0 (ii ch).toInt64) 1 (g (66 + ch)).toInt64) 2 (-1 : Int32).toInt64) 3 (-1)) 4 (-1)) 5 (g (18 + ch)).toInt64) 6 (g (22 + ch)).toInt64) 7 (g 5).toInt64) 8 (g 7).toInt64 := by
        unfold valW envG
        simp
      rw [ew] at lt2 ⊢
      unfold fX0_told
      simp (disch := omega) only [↓nm_v, ↓tg, ↓rA, ↓chk_if, ↓reduceIte, inb_ii, ii_nat, ii_add, and_self, bi_zb, if_bi, if_bi1, ii_leT, ii_leF, ii_ltT, ii_ltF, ii_eqF, ii_m1F, ↓cb_2 hC, ↓cb_1 hC, ↓cb_3 hC, ↓cb_4 hC, ↓cb_5 hC, ↓cb_6 hC, ↓cb_7 hC, ↓cb_10 hC, ↓cb_17 hC, ↓cb_18 hC, ↓cb_19 hC, ↓cb_20 hC, ↓cb_21 hC, ↓cb_22 hC, ↓cb_23 hC, ↓cb_8 hC, ↓cb_9 hC, ↓cb_24 hC, ↓cb_16 hC, ↓cb29_0 hC, ↓cb29_1 hC, ↓sb_0 hS, ↓sb1_0 hS, ↓sb1_1 hS, ↓sb1_2 hS, ↓sb_1 hS, ↓sb_2 hS, ↓sb_3 hS, ↓sb_4 hS, ↓sb_5 hS, ↓sb_6 hS, ↓sb_7 hS, hC, hS, ↓bb_0 hB, ↓bb_1 hB, ↓bb_2 hB, hB, fX0_told_b77, fX0_told_b104, e13, hf1, q, e66, e18, e22, e5, e7, uL_s L', uL_sL, ↓bn_of eget, tp, ↓bn_of lt2]
    · have e46 := hr.2.2.2.2.2.2.2.2.1 l (by omega)
      have e56 := hr.2.2.2.2.2.2.2.2.2.1 l (by omega)
      have hlm : ¬ ii l = -1 := ii_m1 (by omega)
      have ew : valW (L' (c + 31)) g ch (ii l) = vp_updL (vp_updL (vp_updL (vp_updL (vp_updL (vp_updL (vp_updL (vp_updL (vp_updL (L' (c + 31)) 0 (ii ch).toInt64) 1 (g (66 + ch)).toInt64) 2 (ii l).toInt64) 3 (g (46 + l)).toInt64) 4 (g (56 + l)).toInt64) 5 (g (18 + ch)).toInt64) 6 (g (22 + ch)).toInt64) 7 (g 5).toInt64) 8 (g 7).toInt64 := by
        unfold valW envG
        simp [hlm, ii_nat (show l < 2147483648 by omega)]
      rw [ew] at lt2 ⊢
      unfold fX0_told
      simp (disch := omega) only [↓nm_v, ↓tg, ↓rA, ↓chk_if, ↓reduceIte, inb_ii, ii_nat, ii_add, and_self, bi_zb, if_bi, if_bi1, ii_leT, ii_leF, ii_ltT, ii_ltF, ii_eqF, ii_m1F, ↓cb_2 hC, ↓cb_1 hC, ↓cb_3 hC, ↓cb_4 hC, ↓cb_5 hC, ↓cb_6 hC, ↓cb_7 hC, ↓cb_10 hC, ↓cb_17 hC, ↓cb_18 hC, ↓cb_19 hC, ↓cb_20 hC, ↓cb_21 hC, ↓cb_22 hC, ↓cb_23 hC, ↓cb_8 hC, ↓cb_9 hC, ↓cb_24 hC, ↓cb_16 hC, ↓cb29_0 hC, ↓cb29_1 hC, ↓sb_0 hS, ↓sb1_0 hS, ↓sb1_1 hS, ↓sb1_2 hS, ↓sb_1 hS, ↓sb_2 hS, ↓sb_3 hS, ↓sb_4 hS, ↓sb_5 hS, ↓sb_6 hS, ↓sb_7 hS, hC, hS, ↓bb_0 hB, ↓bb_1 hB, ↓bb_2 hB, hB, fX0_told_b77, fX0_told_b104, e13, hf1, q, e66, e18, e22, e5, e7, e46, e56, hlm, uL_s L', uL_sL, ↓bn_of eget, tp, ↓bn_of lt2]
end
