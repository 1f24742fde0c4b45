/-! PLAIN LAND, 28: tables taken, rows kept aside; hours tried -/
def pasN (D : Laws) (n k : Nat) (i : Nat) (g : Nat → Int32) : Nat → Int32 := rngF (fun _ g => passG D n k g) i 0 g
theorem pasN_s (D : Laws) (n k i : Nat) (g : Nat → Int32) : pasN D n k (i + 1) g = passG D n k (pasN D n k i g) := rngF_s _ _ _
theorem passG_st {D : Laws} {g : Nat → Int32} {n k H : Nat} (h : rOK g n k H) : ∀ i, i ≠ 5 → (i < 18 ∨ 26 ≤ i) → passG D n k g i = g i := by
  intro i h5 hi
  unfold passG
  rw [upd_ne h5]
  exact (goA_ok (D := D) h k (Nat.le_refl _)).2 i hi
theorem pasN_ok {D : Laws} {g : Nat → Int32} {n k H : Nat} (h : rOK g n k H) : ∀ i, H + i ≤ 2000 → rOK (pasN D n k i g) n k (H + i) ∧ ∀ j, j ≠ 5 → (j < 18 ∨ 26 ≤ j) → pasN D n k i g j = g j := by
  intro i
  induction i with
  | zero => intro _; exact ⟨h, fun _ _ _ => rfl⟩
  | succ i ih =>
    intro hi
    obtain ⟨h1, h2⟩ := ih (by omega)
    rw [pasN_s]
    refine ⟨pass_ok (H := H + i) h1 (by omega), fun j h5 hj => ?_⟩
    rw [passG_st h1 j h5 hj]
    exact h2 j h5 hj
section
variable {T N T0 N0 : xT} {R R0 : xR} {I I0 : xI} {L : xL} {c s t u m n k nf H : Nat} {D : Laws} {fz : Nat → Prop} {g g' tx : Nat → Int32}
theorem c_rows {a b n : Nat} (h1 : T a = 100) (h2 : T b = 100) (h3 : N a = n) (h4 : N b = n) (hn : n < 1000) : fX2_rows T N I a b = some (sI I a (va_cpy (I b) (I a) 0 0 n)) := by
  have e : Int32.ofNat n = ii n := rfl
  have e0 : cpk N b (ii 0) a (ii 0) (ii n) = true := by
    unfold cpk
    rw [h3, h4]
    simp (disch := omega) only [ii_nat, ii_ltF, show ((ii n < 0) = False) from ii_ltF (b := 0) (Nat.zero_le _) (by omega), show ((ii 0 < 0) = False) from eq_false (by decide)]
    simp
  unfold fX2_rows
  simp (disch := omega) only [↓nm_v, ↓tg, ↓rA, ↓chk_if, ↓reduceIte, inb_ii, ii_nat, ii_add, and_self, bi_zb, if_bi, if_bi1, ii_leT, ii_leF, ii_ltT, ii_ltF, ii_eqF, ii_m1F, h1, h2, h3, e, e0, cpI_s]
theorem c_takes (hB : TbSh t T N R) (hU : TbSh u T N R) (hd : t + 3 < u ∨ u + 3 < t) (hu : TbR I u g) :
    ∃ I', fX2_takes T N I R t u = some I' ∧ TbR I' t g ∧ (∀ a, a < t ∨ t + 3 < a → I' a = I a) := by
  obtain ⟨u0, u1, u2, u3⟩ := hu
  have e1 := c_rows (I := I) (a := t + 1) (b := u + 1) (n := 4) (T := T) (N := N) hB.2.2.1 hU.2.2.1 hB.2.2.2.1 hU.2.2.2.1 (by omega)
  have e2 := c_rows (I := sI I (t + 1) (va_cpy (I (u + 1)) (I (t + 1)) 0 0 4)) (a := t + 2) (b := u + 2) (n := 4) (T := T) (N := N) hB.2.2.2.2.2.1 hU.2.2.2.2.2.1 hB.2.2.2.2.2.2.1 hU.2.2.2.2.2.2.1 (by omega)
  rw [sI_ne (show u + 2 ≠ t + 1 by omega), sI_ne (show t + 2 ≠ t + 1 by omega)] at e2
  have e3 := c_rows (I := sI (sI I (t + 1) (va_cpy (I (u + 1)) (I (t + 1)) 0 0 4)) (t + 2) (va_cpy (I (u + 2)) (I (t + 2)) 0 0 4)) (a := t + 3) (b := u + 3) (n := 10) (T := T) (N := N) hB.2.2.2.2.2.2.2.2.1 hU.2.2.2.2.2.2.2.2.1 hB.2.2.2.2.2.2.2.2.2 hU.2.2.2.2.2.2.2.2.2 (by omega)
  rw [sI_ne (show u + 3 ≠ t + 2 by omega), sI_ne (show t + 3 ≠ t + 2 by omega), sI_ne (show u + 3 ≠ t + 1 by omega), sI_ne (show t + 3 ≠ t + 1 by omega)] at e3
  refine ⟨uI (sI (sI (sI I (t + 1) (va_cpy (I (u + 1)) (I (t + 1)) 0 0 4)) (t + 2) (va_cpy (I (u + 2)) (I (t + 2)) 0 0 4)) (t + 3) (va_cpy (I (u + 3)) (I (t + 3)) 0 0 10)) t 3 (I u 3), ?_, ?_, ?_⟩
  · have b1 := fun (β : Type) (kk : Nat → Option β) => bb_0 hU kk
    have b2 := fun (β : Type) (kk : Nat → Option β) => bb_1 hU kk
    have b3 := fun (β : Type) (kk : Nat → Option β) => bb_2 hU kk
    unfold fX2_takes
    simp (disch := omega) only [↓nm_v, ↓tg, ↓rA, ↓chk_if, ↓reduceIte, inb_ii, ii_nat, ii_add, and_self, bi_zb, if_bi, if_bi1, ii_leT, ii_leF, ii_ltT, ii_ltF, ii_eqF, ii_m1F, ↓bb_0 hB, ↓bb_1 hB, ↓bb_2 hB, hB, hU, ↓bb_0 hU, ↓bb_1 hU, ↓bb_2 hU, ↓bn_of e1, ↓bn_of e2, ↓bn_of e3, sI_ne]
  · refine ⟨?_, fun j hj => ?_, fun j hj => ?_, fun j hj => ?_⟩
    · rw [uI_hit]; exact u0
    · rw [uI_ne (by omega), sI_ne (by omega), sI_ne (by omega), sI_at]
      unfold va_cpy
      rw [if_pos (by omega), show 0 + (j - 0) = j by omega]; exact u1 j hj
    · rw [uI_ne (by omega), sI_ne (by omega), sI_at]
      unfold va_cpy
      rw [if_pos (by omega), show 0 + (j - 0) = j by omega]; exact u2 j hj
    · rw [uI_ne (by omega), sI_at]
      unfold va_cpy
      rw [if_pos (by omega), show 0 + (j - 0) = j by omega]; exact u3 j hj
  · intro a ha
    rw [uI_ne (by omega), sI_ne (by omega), sI_ne (by omega), sI_ne (by omega)]
/-- rows kept aside in the model -/
def kpA (g u : Nat → Int32) (q : Nat) : Nat → Int32 := fun j => if 21 * q ≤ j ∧ j < 21 * q + 21 then g (5 + (j - 21 * q)) else u j
def pbA (g u : Nat → Int32) (q : Nat) : Nat → Int32 := fun j => if 5 ≤ j ∧ j < 26 then u (21 * q + (j - 5)) else g j
theorem m_keepAll (hM : MSh m T N R) (hnf : 70 < nf) {q : Nat} (hq : q < 18) : fX5_keepAll nf T N I R m (ii q) = some (sI I (m + 5) (kpA (I (m + 2)) (I (m + 5)) q)) := by
  have := loop_rel (fun z x i => fX5_keepAll_b2 nf T N R z (sI I (m + 5) x) m (ii q) (ii i)) (fun i x => x = fun j => if 21 * q ≤ j ∧ j < 21 * q + i then I (m + 2) (5 + (j - 21 * q)) else I (m + 5) j) 21 (fun x => some (sI I (m + 5) x)) ?_ ?_ 21 0 (I (m + 5)) nf (by omega) (by omega) (by funext j; rw [if_neg (by omega)])
  · obtain ⟨x, e, hx⟩ := this
    simp only [sI_id] at e
    unfold fX5_keepAll
    rw [show fX5_keepAll_b2 nf T N R nf I m (ii q) (ii 0) = _ from e, hx]
    rfl
  · intro z x i hi hx
    refine ⟨upd x (21 * q + i) (I (m + 2) (5 + i)), ?_, ?_⟩
    · show fX5_keepAll_b2 nf T N R (z + 1) (sI I (m + 5) x) m (ii q) (ii i) = _
      rw [fX5_keepAll_b2]
      simp (disch := omega) only [↓nm_v, ↓tg, ↓rA, ↓chk_if, ↓reduceIte, inb_ii, ii_nat, ii_add, and_self, bi_zb, if_bi, if_bi1, ii_leT, ii_leF, ii_ltT, ii_ltF, ii_eqF, ii_m1F, ↓mb_2 hM, ↓mb_3 hM, ↓mb_4 hM, ↓mb_5 hM, ↓mb_6 hM, ↓mb_7 hM, ↓mb_9 hM, ↓mb_10 hM, ↓mb_12 hM, ↓mb_22 hM, ↓mb_24 hM, ↓mb_25 hM, ↓mb_27 hM, ↓mb_28 hM, ↓mb_31 hM, ↓mb_32 hM, ↓mb_33 hM, ↓mb_35 hM, ↓mb_36 hM, ↓mb_37 hM, ↓mb_41 hM, ↓mb_42 hM, ↓mb_43 hM, ↓mb_44 hM, ↓mb_45 hM, ↓mb_46 hM, ↓mb_47 hM, ↓mb_48 hM, ↓mb_49 hM, ↓mb_55 hM, hM, ii_mul, sI_ne, uI_sI]
    · rw [hx]
      funext j
      rw [upd_at]
      by_cases h : j = 21 * q + i
      · rw [if_pos h, if_pos (by omega), h, show 21 * q + i - 21 * q = i by omega]
      · rw [if_neg h]
        by_cases h2 : 21 * q ≤ j ∧ j < 21 * q + i
        · rw [if_pos h2, if_pos (by omega)]
        · rw [if_neg h2, if_neg (by omega)]
  · intro z x _
    show fX5_keepAll_b2 nf T N R (z + 1) (sI I (m + 5) x) m (ii q) (ii 21) = _
    rw [fX5_keepAll_b2]
    simp (disch := omega) only [↓nm_v, ↓tg, ↓rA, ↓chk_if, ↓reduceIte, inb_ii, ii_nat, ii_add, and_self, bi_zb, if_bi, if_bi1, ii_leT, ii_leF, ii_ltT, ii_ltF, ii_eqF, ii_m1F, ↓mb_2 hM, ↓mb_3 hM, ↓mb_4 hM, ↓mb_5 hM, ↓mb_6 hM, ↓mb_7 hM, ↓mb_9 hM, ↓mb_10 hM, ↓mb_12 hM, ↓mb_22 hM, ↓mb_24 hM, ↓mb_25 hM, ↓mb_27 hM, ↓mb_28 hM, ↓mb_31 hM, ↓mb_32 hM, ↓mb_33 hM, ↓mb_35 hM, ↓mb_36 hM, ↓mb_37 hM, ↓mb_41 hM, ↓mb_42 hM, ↓mb_43 hM, ↓mb_44 hM, ↓mb_45 hM, ↓mb_46 hM, ↓mb_47 hM, ↓mb_48 hM, ↓mb_49 hM, ↓mb_55 hM, hM]
theorem m_putBack (hM : MSh m T N R) (hnf : 70 < nf) {q : Nat} (hq : q < 18) : fX5_putBack nf T N I R m (ii q) = some (sI I (m + 2) (pbA (I (m + 2)) (I (m + 5)) q)) := by
  have := loop_rel (fun z x i => fX5_putBack_b2 nf T N R z (sI I (m + 2) x) m (ii q) (ii i)) (fun i x => x = fun j => if 5 ≤ j ∧ j < 5 + i then I (m + 5) (21 * q + (j - 5)) else I (m + 2) j) 21 (fun x => some (sI I (m + 2) x)) ?_ ?_ 21 0 (I (m + 2)) nf (by omega) (by omega) (by funext j; rw [if_neg (by omega)])
  · obtain ⟨x, e, hx⟩ := this
    simp only [sI_id] at e
    unfold fX5_putBack
    rw [show fX5_putBack_b2 nf T N R nf I m (ii q) (ii 0) = _ from e, hx]
    rfl
  · intro z x i hi hx
    refine ⟨upd x (5 + i) (I (m + 5) (21 * q + i)), ?_, ?_⟩
    · show fX5_putBack_b2 nf T N R (z + 1) (sI I (m + 2) x) m (ii q) (ii i) = _
      rw [fX5_putBack_b2]
      simp (disch := omega) only [↓nm_v, ↓tg, ↓rA, ↓chk_if, ↓reduceIte, inb_ii, ii_nat, ii_add, and_self, bi_zb, if_bi, if_bi1, ii_leT, ii_leF, ii_ltT, ii_ltF, ii_eqF, ii_m1F, ↓mb_2 hM, ↓mb_3 hM, ↓mb_4 hM, ↓mb_5 hM, ↓mb_6 hM, ↓mb_7 hM, ↓mb_9 hM, ↓mb_10 hM, ↓mb_12 hM, ↓mb_22 hM, ↓mb_24 hM, ↓mb_25 hM, ↓mb_27 hM, ↓mb_28 hM, ↓mb_31 hM, ↓mb_32 hM, ↓mb_33 hM, ↓mb_35 hM, ↓mb_36 hM, ↓mb_37 hM, ↓mb_41 hM, ↓mb_42 hM, ↓mb_43 hM, ↓mb_44 hM, ↓mb_45 hM, ↓mb_46 hM, ↓mb_47 hM, ↓mb_48 hM, ↓mb_49 hM, ↓mb_55 hM, hM, ii_mul, sI_ne, uI_sI]
    · rw [hx]
      funext j
      rw [upd_at]
      by_cases h : j = 5 + i
      · rw [if_pos h, if_pos (by omega), h, show 5 + i - 5 = i by omega]
      · rw [if_neg h]
        by_cases h2 : 5 ≤ j ∧ j < 5 + i
        · rw [if_pos h2, if_pos (by omega)]
        · rw [if_neg h2, if_neg (by omega)]
  · intro z x _
    show fX5_putBack_b2 nf T N R (z + 1) (sI I (m + 2) x) m (ii q) (ii 21) = _
    rw [fX5_putBack_b2]
    simp (disch := omega) only [↓nm_v, ↓tg, ↓rA, ↓chk_if, ↓reduceIte, inb_ii, ii_nat, ii_add, and_self, bi_zb, if_bi, if_bi1, ii_leT, ii_leF, ii_ltT, ii_ltF, ii_eqF, ii_m1F, ↓mb_2 hM, ↓mb_3 hM, ↓mb_4 hM, ↓mb_5 hM, ↓mb_6 hM, ↓mb_7 hM, ↓mb_9 hM, ↓mb_10 hM, ↓mb_12 hM, ↓mb_22 hM, ↓mb_24 hM, ↓mb_25 hM, ↓mb_27 hM, ↓mb_28 hM, ↓mb_31 hM, ↓mb_32 hM, ↓mb_33 hM, ↓mb_35 hM, ↓mb_36 hM, ↓mb_37 hM, ↓mb_41 hM, ↓mb_42 hM, ↓mb_43 hM, ↓mb_44 hM, ↓mb_45 hM, ↓mb_46 hM, ↓mb_47 hM, ↓mb_48 hM, ↓mb_49 hM, ↓mb_55 hM, hM]
/-- put back what was kept -/
theorem pb_kp (g g' u : Nat → Int32) {q : Nat} (h : ∀ j, (j < 5 ∨ 26 ≤ j) → g' j = g j) : pbA g' (kpA g u q) q = g := by
  funext j
  unfold pbA kpA
  by_cases h1 : 5 ≤ j ∧ j < 26
  · rw [if_pos h1, if_pos (by omega)]
    congr 1
    omega
  · rw [if_neg h1]
    exact h j (by omega)
end
