/-! PLAIN LAND, 43: the model's tokens -/
def wwd (b : Nat → Nat) (i : Nat) : Nat → Nat → Int64 → Int64
  | 0, _, w => w
  | d + 1, j, w => wwd b i d (j + 1) (if j - i < 10 then w * jj 32 + jj (b j) - jj 96 else -1)
def wdg (b : Nat → Nat) : Nat → Nat → Int64 → Int64
  | 0, _, w => w
  | d + 1, j, w => wdg b d (j + 1) (if w ≤ jj 1000000 then w * jj 10 + jj (b j) - jj 48 else w)
def wth (b : Nat → Nat) (sz i : Nat) : Int64 := if srt b sz i = 1 then wwd b i (tnd b sz i - i) i (jj 0) else if srt b sz i = 2 then wdg b (tnd b sz i - i) i (jj 0) else if srt b sz i = 3 then jj (b i) else jj 0
def f3 (m : Nat) (J : xI) (i e s : Nat) : xI := sI J m fun j => if j = 14 then ii i else if j = 15 then ii e else if j = 16 then ii s else J m j
section
variable {m : Nat} {J : xI} {i e s : Nat} {L : xL}
theorem f3_at (j : Nat) : f3 m J i e s m j = if j = 14 then ii i else if j = 15 then ii e else if j = 16 then ii s else J m j := by unfold f3; rw [sI_at]
theorem f3_14 : f3 m J i e s m 14 = ii i := by rw [f3_at]; rfl
theorem f3_15 : f3 m J i e s m 15 = ii e := by rw [f3_at]; rfl
theorem f3_16 : f3 m J i e s m 16 = ii s := by rw [f3_at]; rfl
theorem f3_13 : f3 m J i e s m 13 = J m 13 := by rw [f3_at]; rfl
theorem f3_ne {a : Nat} (h : a ≠ m) : f3 m J i e s a = J a := by unfold f3; rw [sI_ne h]
theorem f3_u14 (i' : Nat) : uI (f3 m J i e s) m 14 (ii i') = f3 m J i' e s := by
  unfold f3
  rw [uI_sI]
  congr 1
  funext j
  rw [upd_at]
  by_cases q : j = 14
  · rw [if_pos q, if_pos q]
  · rw [if_neg q, if_neg q, if_neg q]
theorem f3_u15 (e' : Nat) : uI (f3 m J i e s) m 15 (ii e') = f3 m J i e' s := by
  unfold f3
  rw [uI_sI]
  congr 1
  funext j
  rw [upd_at]
  by_cases q : j = 15
  · subst q; rfl
  · rw [if_neg q, if_neg q, if_neg q]
theorem f3_u16 (s' : Nat) : uI (f3 m J i e s) m 16 (ii s') = f3 m J i e s' := by
  unfold f3
  rw [uI_sI]
  congr 1
  funext j
  rw [upd_at]
  by_cases q : j = 16
  · subst q; rfl
  · rw [if_neg q, if_neg q, if_neg q]
theorem uL_uL (L : xL) (a k : Nat) (v w : Int64) : uL (uL L a k v) a k w = uL L a k w := by
  funext b
  by_cases q : b = a
  · subst q
    funext j
    rw [uL_at, uL_at, uL_at]
    split <;> rfl
  · rw [uL_ne q, uL_ne q, uL_ne q]
theorem uL_hit (L : xL) (a k : Nat) (v : Int64) : uL L a k v a k = v := by rw [uL_at, if_pos rfl]
theorem m_small {c : Nat} (h : c < 256) : fX5_isSmall (ii c) = some (bi (isL c)) := by
  unfold fX5_isSmall isL
  by_cases h1 : c < 97
  · have q : decide (97 ≤ c) = false := decide_eq_false (by omega)
    simp (disch := omega) only [↓nm_v, ↓tg, ↓rA, ↓chk_if, ↓reduceIte, inb_ii, ii_nat, ii_add, and_self, bi_zb, if_bi, if_bi1, ii_leT, ii_leF, ii_ltT, ii_ltF, ii_eqF, ii_m1F, q, Bool.false_and, bi_f]
  · by_cases h2 : 122 < c
    · have q : decide (c ≤ 122) = false := decide_eq_false (by omega)
      simp (disch := omega) only [↓nm_v, ↓tg, ↓rA, ↓chk_if, ↓reduceIte, inb_ii, ii_nat, ii_add, and_self, bi_zb, if_bi, if_bi1, ii_leT, ii_leF, ii_ltT, ii_ltF, ii_eqF, ii_m1F, q, Bool.and_false, bi_f]
    · have q : decide (c ≤ 122) = true := decide_eq_true (by omega)
      have q2 : decide (97 ≤ c) = true := decide_eq_true (by omega)
      simp (disch := omega) only [↓nm_v, ↓tg, ↓rA, ↓chk_if, ↓reduceIte, inb_ii, ii_nat, ii_add, and_self, bi_zb, if_bi, if_bi1, ii_leT, ii_leF, ii_ltT, ii_ltF, ii_eqF, ii_m1F, q, q2, Bool.and_self, bi_t]
theorem m_digit {c : Nat} (h : c < 256) : fX5_isDigit (ii c) = some (bi (isD c)) := by
  unfold fX5_isDigit isD
  by_cases h1 : c < 48
  · have q : decide (48 ≤ c) = false := decide_eq_false (by omega)
    simp (disch := omega) only [↓nm_v, ↓tg, ↓rA, ↓chk_if, ↓reduceIte, inb_ii, ii_nat, ii_add, and_self, bi_zb, if_bi, if_bi1, ii_leT, ii_leF, ii_ltT, ii_ltF, ii_eqF, ii_m1F, q, Bool.false_and, bi_f]
  · by_cases h2 : 57 < c
    · have q : decide (c ≤ 57) = false := decide_eq_false (by omega)
      simp (disch := omega) only [↓nm_v, ↓tg, ↓rA, ↓chk_if, ↓reduceIte, inb_ii, ii_nat, ii_add, and_self, bi_zb, if_bi, if_bi1, ii_leT, ii_leF, ii_ltT, ii_ltF, ii_eqF, ii_m1F, q, Bool.and_false, bi_f]
    · have q : decide (c ≤ 57) = true := decide_eq_true (by omega)
      have q2 : decide (48 ≤ c) = true := decide_eq_true (by omega)
      simp (disch := omega) only [↓nm_v, ↓tg, ↓rA, ↓chk_if, ↓reduceIte, inb_ii, ii_nat, ii_add, and_self, bi_zb, if_bi, if_bi1, ii_leT, ii_leF, ii_ltT, ii_ltF, ii_eqF, ii_m1F, q, q2, Bool.and_self, bi_t]
end
/-- the model's tape -/
abbrev mTp (m : Nat) (b : Nat → Nat) (sz : Nat) (I : xI) : Prop := I m 13 = ii sz ∧ sz ≤ 400 ∧ (∀ j, j < sz → I (m + 9) j = ii (b j)) ∧ ∀ j, b j < 256
section
variable {T N : xT} {R : xR} {J : xI} {L : xL} {m nf sz : Nat} {b : Nat → Nat}
theorem m_nx8 (hM : MSh m T N R) (hp : mTp m b sz J) (e s : Nat) : ∀ (d i k : Nat), i + d = sz → d < k → fX5_next_b8 nf T N R k (f3 m J i e s) L m = fX5_next_b46 nf T N (f3 m J (skp b sz i) e s) L R m := by
  obtain ⟨h1, h2, h3, h4⟩ := hp
  intro d
  induction d with
  | zero =>
    intro i k hi hk
    obtain ⟨k, rfl⟩ : ∃ z, k = z + 1 := ⟨k - 1, by omega⟩
    unfold skp
    rw [scan_e (by omega), fX5_next_b8]
    simp (disch := omega) only [↓nm_v, ↓tg, ↓rA, ↓chk_if, ↓reduceIte, inb_ii, ii_nat, ii_add, and_self, bi_zb, if_bi, if_bi1, ii_leT, ii_leF, ii_ltT, ii_ltF, ii_eqF, ii_m1F, ↓mb_2 hM, ↓mb_3 hM, ↓mb_4 hM, ↓mb_5 hM, ↓mb_6 hM, ↓mb_7 hM, ↓mb_9 hM, ↓mb_10 hM, ↓mb_12 hM, ↓mb_22 hM, ↓mb_24 hM, ↓mb_25 hM, ↓mb_27 hM, ↓mb_28 hM, ↓mb_31 hM, ↓mb_32 hM, ↓mb_33 hM, ↓mb_35 hM, ↓mb_36 hM, ↓mb_37 hM, ↓mb_41 hM, ↓mb_42 hM, ↓mb_43 hM, ↓mb_44 hM, ↓mb_45 hM, ↓mb_46 hM, ↓mb_47 hM, ↓mb_48 hM, ↓mb_49 hM, ↓mb_55 hM, hM, f3_13, f3_14, h1]
  | succ d ih =>
    intro i k hi hk
    obtain ⟨k, rfl⟩ : ∃ z, k = z + 1 := ⟨k - 1, by omega⟩
    have hb := h4 i
    have e3 := h3 i (by omega)
    rw [fX5_next_b8]
    by_cases q : b i = 32
    · have es : skp b sz i = skp b sz (i + 1) := by unfold skp; rw [scan_s (by omega), if_pos (by simpa using q)]
      rw [es]
      simp (disch := omega) only [↓nm_v, ↓tg, ↓rA, ↓chk_if, ↓reduceIte, inb_ii, ii_nat, ii_add, and_self, bi_zb, if_bi, if_bi1, ii_leT, ii_leF, ii_ltT, ii_ltF, ii_eqF, ii_m1F, ↓mb_2 hM, ↓mb_3 hM, ↓mb_4 hM, ↓mb_5 hM, ↓mb_6 hM, ↓mb_7 hM, ↓mb_9 hM, ↓mb_10 hM, ↓mb_12 hM, ↓mb_22 hM, ↓mb_24 hM, ↓mb_25 hM, ↓mb_27 hM, ↓mb_28 hM, ↓mb_31 hM, ↓mb_32 hM, ↓mb_33 hM, ↓mb_35 hM, ↓mb_36 hM, ↓mb_37 hM, ↓mb_41 hM, ↓mb_42 hM, ↓mb_43 hM, ↓mb_44 hM, ↓mb_45 hM, ↓mb_46 hM, ↓mb_47 hM, ↓mb_48 hM, ↓mb_49 hM, ↓mb_55 hM, hM, f3_13, f3_14, h1, f3_ne, e3, q, f3_u14]
      exact ih (i + 1) k (by omega) (by omega)
    · have es : skp b sz i = i := by unfold skp; rw [scan_s (by omega), if_neg (by simpa using q)]
      rw [es]
      simp (disch := omega) only [↓nm_v, ↓tg, ↓rA, ↓chk_if, ↓reduceIte, inb_ii, ii_nat, ii_add, and_self, bi_zb, if_bi, if_bi1, ii_leT, ii_leF, ii_ltT, ii_ltF, ii_eqF, ii_m1F, ↓mb_2 hM, ↓mb_3 hM, ↓mb_4 hM, ↓mb_5 hM, ↓mb_6 hM, ↓mb_7 hM, ↓mb_9 hM, ↓mb_10 hM, ↓mb_12 hM, ↓mb_22 hM, ↓mb_24 hM, ↓mb_25 hM, ↓mb_27 hM, ↓mb_28 hM, ↓mb_31 hM, ↓mb_32 hM, ↓mb_33 hM, ↓mb_35 hM, ↓mb_36 hM, ↓mb_37 hM, ↓mb_41 hM, ↓mb_42 hM, ↓mb_43 hM, ↓mb_44 hM, ↓mb_45 hM, ↓mb_46 hM, ↓mb_47 hM, ↓mb_48 hM, ↓mb_49 hM, ↓mb_55 hM, hM, f3_13, f3_14, h1, f3_ne, e3, q]
theorem m_nx149 (hM : MSh m T N R) (hp : mTp m b sz J) (i : Nat) : ∀ (d e k : Nat) (w : Int64), e + d = sz → i ≤ e → d < k → fX5_next_b149 nf T N R k (f3 m J i e 1) (uL L m 17 w) m = fX5_next_b243 nf T N R nf (f3 m J i (scan (fun j => isL (b j)) sz e) 1) (uL L m 17 (wwd b i (scan (fun j => isL (b j)) sz e - e) e w)) m := by
  obtain ⟨h1, h2, h3, h4⟩ := hp
  intro d
  induction d with
  | zero =>
    intro e k w hi hie hk
    obtain ⟨k, rfl⟩ : ∃ z, k = z + 1 := ⟨k - 1, by omega⟩
    rw [scan_e (by omega), fX5_next_b149, Nat.sub_self]
    simp (disch := omega) only [↓nm_v, ↓tg, ↓rA, ↓chk_if, ↓reduceIte, inb_ii, ii_nat, ii_add, and_self, bi_zb, if_bi, if_bi1, ii_leT, ii_leF, ii_ltT, ii_ltF, ii_eqF, ii_m1F, ↓mb_2 hM, ↓mb_3 hM, ↓mb_4 hM, ↓mb_5 hM, ↓mb_6 hM, ↓mb_7 hM, ↓mb_9 hM, ↓mb_10 hM, ↓mb_12 hM, ↓mb_22 hM, ↓mb_24 hM, ↓mb_25 hM, ↓mb_27 hM, ↓mb_28 hM, ↓mb_31 hM, ↓mb_32 hM, ↓mb_33 hM, ↓mb_35 hM, ↓mb_36 hM, ↓mb_37 hM, ↓mb_41 hM, ↓mb_42 hM, ↓mb_43 hM, ↓mb_44 hM, ↓mb_45 hM, ↓mb_46 hM, ↓mb_47 hM, ↓mb_48 hM, ↓mb_49 hM, ↓mb_55 hM, hM, f3_13, f3_15, f3_16, h1]
    rfl
  | succ d ih =>
    intro e k w hi hie hk
    obtain ⟨k, rfl⟩ : ∃ z, k = z + 1 := ⟨k - 1, by omega⟩
    have hb := h4 e
    have e3 := h3 e (by omega)
    rw [fX5_next_b149, scan_s (by omega)]
    by_cases q : isL (b e) = true
    · rw [if_pos q]
      have hs := scan_le (P := fun j => isL (b j)) (sz := sz) (sz - (e + 1)) (e + 1) (by omega)
      have es : scan (fun j => isL (b j)) sz (e + 1) - e = (scan (fun j => isL (b j)) sz (e + 1) - (e + 1)) + 1 := by omega
      rw [es]
      unfold wwd
      have esub : ii e - ii i = ii (e - i) := ii_sub hie
      by_cases q2 : e - i < 10
      · rw [if_pos q2]
        simp (disch := omega) only [↓nm_v, ↓tg, ↓rA, ↓chk_if, ↓reduceIte, inb_ii, ii_nat, ii_add, and_self, bi_zb, if_bi, if_bi1, ii_leT, ii_leF, ii_ltT, ii_ltF, ii_eqF, ii_m1F, ↓mb_2 hM, ↓mb_3 hM, ↓mb_4 hM, ↓mb_5 hM, ↓mb_6 hM, ↓mb_7 hM, ↓mb_9 hM, ↓mb_10 hM, ↓mb_12 hM, ↓mb_22 hM, ↓mb_24 hM, ↓mb_25 hM, ↓mb_27 hM, ↓mb_28 hM, ↓mb_31 hM, ↓mb_32 hM, ↓mb_33 hM, ↓mb_35 hM, ↓mb_36 hM, ↓mb_37 hM, ↓mb_41 hM, ↓mb_42 hM, ↓mb_43 hM, ↓mb_44 hM, ↓mb_45 hM, ↓mb_46 hM, ↓mb_47 hM, ↓mb_48 hM, ↓mb_49 hM, ↓mb_55 hM, hM, f3_13, f3_14, f3_15, f3_16, h1, f3_ne, e3, ↓bn_of (m_small hb), q, esub, fX5_next_b227, uL_hit, uL_uL, f3_u15, ii_64]
        exact ih (e + 1) k _ (by omega) (by omega) (by omega)
      · rw [if_neg q2]
        simp (disch := omega) only [↓nm_v, ↓tg, ↓rA, ↓chk_if, ↓reduceIte, inb_ii, ii_nat, ii_add, and_self, bi_zb, if_bi, if_bi1, ii_leT, ii_leF, ii_ltT, ii_ltF, ii_eqF, ii_m1F, ↓mb_2 hM, ↓mb_3 hM, ↓mb_4 hM, ↓mb_5 hM, ↓mb_6 hM, ↓mb_7 hM, ↓mb_9 hM, ↓mb_10 hM, ↓mb_12 hM, ↓mb_22 hM, ↓mb_24 hM, ↓mb_25 hM, ↓mb_27 hM, ↓mb_28 hM, ↓mb_31 hM, ↓mb_32 hM, ↓mb_33 hM, ↓mb_35 hM, ↓mb_36 hM, ↓mb_37 hM, ↓mb_41 hM, ↓mb_42 hM, ↓mb_43 hM, ↓mb_44 hM, ↓mb_45 hM, ↓mb_46 hM, ↓mb_47 hM, ↓mb_48 hM, ↓mb_49 hM, ↓mb_55 hM, hM, f3_13, f3_14, f3_15, f3_16, h1, f3_ne, e3, ↓bn_of (m_small hb), q, esub, fX5_next_b227, uL_hit, uL_uL, f3_u15, ii_64]
        exact ih (e + 1) k _ (by omega) (by omega) (by omega)
    · rw [if_neg q, Nat.sub_self]
      have q' : isL (b e) = false := by simpa using q
      simp (disch := omega) only [↓nm_v, ↓tg, ↓rA, ↓chk_if, ↓reduceIte, inb_ii, ii_nat, ii_add, and_self, bi_zb, if_bi, if_bi1, ii_leT, ii_leF, ii_ltT, ii_ltF, ii_eqF, ii_m1F, ↓mb_2 hM, ↓mb_3 hM, ↓mb_4 hM, ↓mb_5 hM, ↓mb_6 hM, ↓mb_7 hM, ↓mb_9 hM, ↓mb_10 hM, ↓mb_12 hM, ↓mb_22 hM, ↓mb_24 hM, ↓mb_25 hM, ↓mb_27 hM, ↓mb_28 hM, ↓mb_31 hM, ↓mb_32 hM, ↓mb_33 hM, ↓mb_35 hM, ↓mb_36 hM, ↓mb_37 hM, ↓mb_41 hM, ↓mb_42 hM, ↓mb_43 hM, ↓mb_44 hM, ↓mb_45 hM, ↓mb_46 hM, ↓mb_47 hM, ↓mb_48 hM, ↓mb_49 hM, ↓mb_55 hM, hM, f3_13, f3_14, f3_15, f3_16, h1, f3_ne, e3, ↓bn_of (m_small hb), q', Bool.false_eq_true]
      rfl
theorem m_nx243 (hM : MSh m T N R) (hp : mTp m b sz J) (i : Nat) : ∀ (d e k : Nat) (w : Int64), e + d = sz → d < k → fX5_next_b243 nf T N R k (f3 m J i e 2) (uL L m 17 w) m = some (f3 m J i (scan (fun j => isD (b j)) sz e) 2, uL L m 17 (wdg b (scan (fun j => isD (b j)) sz e - e) e w)) := by
  obtain ⟨h1, h2, h3, h4⟩ := hp
  intro d
  induction d with
  | zero =>
    intro e k w hi hk
    obtain ⟨k, rfl⟩ : ∃ z, k = z + 1 := ⟨k - 1, by omega⟩
    rw [scan_e (by omega), fX5_next_b243, Nat.sub_self]
    simp (disch := omega) only [↓nm_v, ↓tg, ↓rA, ↓chk_if, ↓reduceIte, inb_ii, ii_nat, ii_add, and_self, bi_zb, if_bi, if_bi1, ii_leT, ii_leF, ii_ltT, ii_ltF, ii_eqF, ii_m1F, ↓mb_2 hM, ↓mb_3 hM, ↓mb_4 hM, ↓mb_5 hM, ↓mb_6 hM, ↓mb_7 hM, ↓mb_9 hM, ↓mb_10 hM, ↓mb_12 hM, ↓mb_22 hM, ↓mb_24 hM, ↓mb_25 hM, ↓mb_27 hM, ↓mb_28 hM, ↓mb_31 hM, ↓mb_32 hM, ↓mb_33 hM, ↓mb_35 hM, ↓mb_36 hM, ↓mb_37 hM, ↓mb_41 hM, ↓mb_42 hM, ↓mb_43 hM, ↓mb_44 hM, ↓mb_45 hM, ↓mb_46 hM, ↓mb_47 hM, ↓mb_48 hM, ↓mb_49 hM, ↓mb_55 hM, hM, f3_13, f3_15, f3_16, h1]
    rfl
  | succ d ih =>
    intro e k w hi hk
    obtain ⟨k, rfl⟩ : ∃ z, k = z + 1 := ⟨k - 1, by omega⟩
    have hb := h4 e
    have e3 := h3 e (by omega)
    rw [fX5_next_b243, scan_s (by omega)]
    by_cases q : isD (b e) = true
    · rw [if_pos q]
      have hs := scan_le (P := fun j => isD (b j)) (sz := sz) (sz - (e + 1)) (e + 1) (by omega)
      have es : scan (fun j => isD (b j)) sz (e + 1) - e = (scan (fun j => isD (b j)) sz (e + 1) - (e + 1)) + 1 := by omega
      rw [es]
      unfold wdg
      by_cases q2 : w ≤ jj 1000000
      · rw [if_pos q2]
        simp (disch := omega) only [↓nm_v, ↓tg, ↓rA, ↓chk_if, ↓reduceIte, inb_ii, ii_nat, ii_add, and_self, bi_zb, if_bi, if_bi1, ii_leT, ii_leF, ii_ltT, ii_ltF, ii_eqF, ii_m1F, ↓mb_2 hM, ↓mb_3 hM, ↓mb_4 hM, ↓mb_5 hM, ↓mb_6 hM, ↓mb_7 hM, ↓mb_9 hM, ↓mb_10 hM, ↓mb_12 hM, ↓mb_22 hM, ↓mb_24 hM, ↓mb_25 hM, ↓mb_27 hM, ↓mb_28 hM, ↓mb_31 hM, ↓mb_32 hM, ↓mb_33 hM, ↓mb_35 hM, ↓mb_36 hM, ↓mb_37 hM, ↓mb_41 hM, ↓mb_42 hM, ↓mb_43 hM, ↓mb_44 hM, ↓mb_45 hM, ↓mb_46 hM, ↓mb_47 hM, ↓mb_48 hM, ↓mb_49 hM, ↓mb_55 hM, hM, f3_13, f3_15, f3_16, h1, f3_ne, e3, ↓bn_of (m_digit hb), q, fX5_next_b319, uL_hit, uL_uL, f3_u15, ii_64, q2]
        exact ih (e + 1) k _ (by omega) (by omega)
      · rw [if_neg q2]
        simp (disch := omega) only [↓nm_v, ↓tg, ↓rA, ↓chk_if, ↓reduceIte, inb_ii, ii_nat, ii_add, and_self, bi_zb, if_bi, if_bi1, ii_leT, ii_leF, ii_ltT, ii_ltF, ii_eqF, ii_m1F, ↓mb_2 hM, ↓mb_3 hM, ↓mb_4 hM, ↓mb_5 hM, ↓mb_6 hM, ↓mb_7 hM, ↓mb_9 hM, ↓mb_10 hM, ↓mb_12 hM, ↓mb_22 hM, ↓mb_24 hM, ↓mb_25 hM, ↓mb_27 hM, ↓mb_28 hM, ↓mb_31 hM, ↓mb_32 hM, ↓mb_33 hM, ↓mb_35 hM, ↓mb_36 hM, ↓mb_37 hM, ↓mb_41 hM, ↓mb_42 hM, ↓mb_43 hM, ↓mb_44 hM, ↓mb_45 hM, ↓mb_46 hM, ↓mb_47 hM, ↓mb_48 hM, ↓mb_49 hM, ↓mb_55 hM, hM, f3_13, f3_15, f3_16, h1, f3_ne, e3, ↓bn_of (m_digit hb), q, fX5_next_b319, uL_hit, uL_uL, f3_u15, ii_64, q2]
        exact ih (e + 1) k _ (by omega) (by omega)
    · rw [if_neg q, Nat.sub_self]
      have q' : isD (b e) = false := by simpa using q
      simp (disch := omega) only [↓nm_v, ↓tg, ↓rA, ↓chk_if, ↓reduceIte, inb_ii, ii_nat, ii_add, and_self, bi_zb, if_bi, if_bi1, ii_leT, ii_leF, ii_ltT, ii_ltF, ii_eqF, ii_m1F, ↓mb_2 hM, ↓mb_3 hM, ↓mb_4 hM, ↓mb_5 hM, ↓mb_6 hM, ↓mb_7 hM, ↓mb_9 hM, ↓mb_10 hM, ↓mb_12 hM, ↓mb_22 hM, ↓mb_24 hM, ↓mb_25 hM, ↓mb_27 hM, ↓mb_28 hM, ↓mb_31 hM, ↓mb_32 hM, ↓mb_33 hM, ↓mb_35 hM, ↓mb_36 hM, ↓mb_37 hM, ↓mb_41 hM, ↓mb_42 hM, ↓mb_43 hM, ↓mb_44 hM, ↓mb_45 hM, ↓mb_46 hM, ↓mb_47 hM, ↓mb_48 hM, ↓mb_49 hM, ↓mb_55 hM, hM, f3_13, f3_15, f3_16, h1, f3_ne, e3, ↓bn_of (m_digit hb), q', Bool.false_eq_true]
      rfl
theorem m_nx243' (hM : MSh m T N R) {i e s : Nat} (h : s ≠ 2) (hs : s < 5) (hnf : 0 < nf) : fX5_next_b243 nf T N R nf (f3 m J i e s) L m = some (f3 m J i e s, L) := by
  obtain ⟨k, rfl⟩ : ∃ z, nf = z + 1 := ⟨nf - 1, by omega⟩
  rw [fX5_next_b243]
  simp (disch := omega) only [↓nm_v, ↓tg, ↓rA, ↓chk_if, ↓reduceIte, inb_ii, ii_nat, ii_add, and_self, bi_zb, if_bi, if_bi1, ii_leT, ii_leF, ii_ltT, ii_ltF, ii_eqF, ii_m1F, ↓mb_2 hM, ↓mb_3 hM, ↓mb_4 hM, ↓mb_5 hM, ↓mb_6 hM, ↓mb_7 hM, ↓mb_9 hM, ↓mb_10 hM, ↓mb_12 hM, ↓mb_22 hM, ↓mb_24 hM, ↓mb_25 hM, ↓mb_27 hM, ↓mb_28 hM, ↓mb_31 hM, ↓mb_32 hM, ↓mb_33 hM, ↓mb_35 hM, ↓mb_36 hM, ↓mb_37 hM, ↓mb_41 hM, ↓mb_42 hM, ↓mb_43 hM, ↓mb_44 hM, ↓mb_45 hM, ↓mb_46 hM, ↓mb_47 hM, ↓mb_48 hM, ↓mb_49 hM, ↓mb_55 hM, hM, f3_16]
theorem m_nx149' (hM : MSh m T N R) {i e s : Nat} (h : s ≠ 1) (hs : s < 5) (hnf : 0 < nf) : fX5_next_b149 nf T N R nf (f3 m J i e s) L m = fX5_next_b243 nf T N R nf (f3 m J i e s) L m := by
  obtain ⟨k, rfl⟩ : ∃ z, nf = z + 1 := ⟨nf - 1, by omega⟩
  rw [fX5_next_b149]
  simp (disch := omega) only [↓nm_v, ↓tg, ↓rA, ↓chk_if, ↓reduceIte, inb_ii, ii_nat, ii_add, and_self, bi_zb, if_bi, if_bi1, ii_leT, ii_leF, ii_ltT, ii_ltF, ii_eqF, ii_m1F, ↓mb_2 hM, ↓mb_3 hM, ↓mb_4 hM, ↓mb_5 hM, ↓mb_6 hM, ↓mb_7 hM, ↓mb_9 hM, ↓mb_10 hM, ↓mb_12 hM, ↓mb_22 hM, ↓mb_24 hM, ↓mb_25 hM, ↓mb_27 hM, ↓mb_28 hM, ↓mb_31 hM, ↓mb_32 hM, ↓mb_33 hM, ↓mb_35 hM, ↓mb_36 hM, ↓mb_37 hM, ↓mb_41 hM, ↓mb_42 hM, ↓mb_43 hM, ↓mb_44 hM, ↓mb_45 hM, ↓mb_46 hM, ↓mb_47 hM, ↓mb_48 hM, ↓mb_49 hM, ↓mb_55 hM, hM, f3_16]
/-- the token behind place t -/
theorem m_nextG (hM : MSh m T N R) (hp : mTp m b sz J) (hnf : 402 < nf) {i0 t s0 : Nat} (ht : t ≤ sz) : fX5_next nf T N (f3 m J i0 t s0) L R m = some (f3 m J (skp b sz t) (tnd b sz (skp b sz t)) (srt b sz (skp b sz t)), uL L m 17 (wth b sz (skp b sz t))) := by
  obtain ⟨h1, h2, h3, h4⟩ := id hp
  have htk := skp_tk (b := b) ht
  unfold fX5_next
  simp (disch := omega) only [↓nm_v, ↓tg, ↓rA, ↓chk_if, ↓reduceIte, inb_ii, ii_nat, ii_add, and_self, bi_zb, if_bi, if_bi1, ii_leT, ii_leF, ii_ltT, ii_ltF, ii_eqF, ii_m1F, ↓mb_2 hM, ↓mb_3 hM, ↓mb_4 hM, ↓mb_5 hM, ↓mb_6 hM, ↓mb_7 hM, ↓mb_9 hM, ↓mb_10 hM, ↓mb_12 hM, ↓mb_22 hM, ↓mb_24 hM, ↓mb_25 hM, ↓mb_27 hM, ↓mb_28 hM, ↓mb_31 hM, ↓mb_32 hM, ↓mb_33 hM, ↓mb_35 hM, ↓mb_36 hM, ↓mb_37 hM, ↓mb_41 hM, ↓mb_42 hM, ↓mb_43 hM, ↓mb_44 hM, ↓mb_45 hM, ↓mb_46 hM, ↓mb_47 hM, ↓mb_48 hM, ↓mb_49 hM, ↓mb_55 hM, hM, f3_15, f3_u14]
  rw [m_nx8 hM hp t s0 (sz - t) t nf (by omega) (by omega)]
  generalize skp b sz t = i at htk ⊢
  unfold fX5_next_b46
  by_cases q : sz ≤ i
  · have : i = sz := by have := htk.1.1; omega
    have es : srt b sz i = 0 := by unfold srt; rw [if_pos q]
    have ew : wth b sz i = jj 0 := by unfold wth; rw [es]; rfl
    have et : tnd b sz i = i := by unfold tnd; rw [if_pos q]
    rw [es, ew, et]
    simp (disch := omega) only [↓nm_v, ↓tg, ↓rA, ↓chk_if, ↓reduceIte, inb_ii, ii_nat, ii_add, and_self, bi_zb, if_bi, if_bi1, ii_leT, ii_leF, ii_ltT, ii_ltF, ii_eqF, ii_m1F, ↓mb_2 hM, ↓mb_3 hM, ↓mb_4 hM, ↓mb_5 hM, ↓mb_6 hM, ↓mb_7 hM, ↓mb_9 hM, ↓mb_10 hM, ↓mb_12 hM, ↓mb_22 hM, ↓mb_24 hM, ↓mb_25 hM, ↓mb_27 hM, ↓mb_28 hM, ↓mb_31 hM, ↓mb_32 hM, ↓mb_33 hM, ↓mb_35 hM, ↓mb_36 hM, ↓mb_37 hM, ↓mb_41 hM, ↓mb_42 hM, ↓mb_43 hM, ↓mb_44 hM, ↓mb_45 hM, ↓mb_46 hM, ↓mb_47 hM, ↓mb_48 hM, ↓mb_49 hM, ↓mb_55 hM, hM, f3_14, f3_13, f3_u15, h1, this, fX5_next_b114, f3_u16, f3_16, m_nx149' hM, m_nx243' hM]
  · have e3 := h3 i (by omega)
    have hb := h4 i
    have hne : i ≠ sz := by omega
    by_cases q1 : isL (b i) = true
    · have es : srt b sz i = 1 := by unfold srt; rw [if_neg q, if_pos q1]
      have et : tnd b sz i = scan (fun j => isL (b j)) sz i := by unfold tnd; rw [if_neg q, if_pos q1]
      have ew : wth b sz i = wwd b i (scan (fun j => isL (b j)) sz i - i) i (jj 0) := by unfold wth; rw [es, if_pos rfl, et]
      rw [es, ew, et]
      simp (disch := omega) only [↓nm_v, ↓tg, ↓rA, ↓chk_if, ↓reduceIte, inb_ii, ii_nat, ii_add, and_self, bi_zb, if_bi, if_bi1, ii_leT, ii_leF, ii_ltT, ii_ltF, ii_eqF, ii_m1F, ↓mb_2 hM, ↓mb_3 hM, ↓mb_4 hM, ↓mb_5 hM, ↓mb_6 hM, ↓mb_7 hM, ↓mb_9 hM, ↓mb_10 hM, ↓mb_12 hM, ↓mb_22 hM, ↓mb_24 hM, ↓mb_25 hM, ↓mb_27 hM, ↓mb_28 hM, ↓mb_31 hM, ↓mb_32 hM, ↓mb_33 hM, ↓mb_35 hM, ↓mb_36 hM, ↓mb_37 hM, ↓mb_41 hM, ↓mb_42 hM, ↓mb_43 hM, ↓mb_44 hM, ↓mb_45 hM, ↓mb_46 hM, ↓mb_47 hM, ↓mb_48 hM, ↓mb_49 hM, ↓mb_55 hM, hM, f3_14, f3_13, f3_u15, h1, hne, f3_ne, e3, ↓bn_of (m_small hb), q1, fX5_next_b114, f3_u16, f3_16]
      rw [m_nx149 hM hp i (sz - i) i nf _ (by omega) (by omega) (by omega), m_nx243' hM (by omega) (by omega) (by omega)]
    · have q1' : isL (b i) = false := by simpa using q1
      by_cases q2 : isD (b i) = true
      · have es : srt b sz i = 2 := by unfold srt; rw [if_neg q, if_neg q1, if_pos q2]
        have et : tnd b sz i = scan (fun j => isD (b j)) sz i := by unfold tnd; rw [if_neg q, if_neg q1, if_pos q2]
        have ew : wth b sz i = wdg b (scan (fun j => isD (b j)) sz i - i) i (jj 0) := by unfold wth; rw [es, if_neg (by omega), if_pos rfl, et]
        rw [es, ew, et]
        simp (disch := omega) only [↓nm_v, ↓tg, ↓rA, ↓chk_if, ↓reduceIte, inb_ii, ii_nat, ii_add, and_self, bi_zb, if_bi, if_bi1, ii_leT, ii_leF, ii_ltT, ii_ltF, ii_eqF, ii_m1F, ↓mb_2 hM, ↓mb_3 hM, ↓mb_4 hM, ↓mb_5 hM, ↓mb_6 hM, ↓mb_7 hM, ↓mb_9 hM, ↓mb_10 hM, ↓mb_12 hM, ↓mb_22 hM, ↓mb_24 hM, ↓mb_25 hM, ↓mb_27 hM, ↓mb_28 hM, ↓mb_31 hM, ↓mb_32 hM, ↓mb_33 hM, ↓mb_35 hM, ↓mb_36 hM, ↓mb_37 hM, ↓mb_41 hM, ↓mb_42 hM, ↓mb_43 hM, ↓mb_44 hM, ↓mb_45 hM, ↓mb_46 hM, ↓mb_47 hM, ↓mb_48 hM, ↓mb_49 hM, ↓mb_55 hM, hM, f3_14, f3_13, f3_u15, h1, hne, f3_ne, e3, ↓bn_of (m_small hb), ↓bn_of (m_digit hb), q1', q2, fX5_next_b114, f3_u16, f3_16, Bool.false_eq_true, m_nx149' hM]
        rw [m_nx243 hM hp i (sz - i) i nf _ (by omega) (by omega)]
      · have q2' : isD (b i) = false := by simpa using q2
        have es : srt b sz i = 3 := by unfold srt; rw [if_neg q, if_neg q1, if_neg q2]
        have et : tnd b sz i = i + 1 := by unfold tnd; rw [if_neg q, if_neg q1, if_neg q2]
        have ew : wth b sz i = jj (b i) := by unfold wth; rw [es, if_neg (by omega), if_neg (by omega), if_pos rfl]
        rw [es, ew, et]
        simp (disch := omega) only [↓nm_v, ↓tg, ↓rA, ↓chk_if, ↓reduceIte, inb_ii, ii_nat, ii_add, and_self, bi_zb, if_bi, if_bi1, ii_leT, ii_leF, ii_ltT, ii_ltF, ii_eqF, ii_m1F, ↓mb_2 hM, ↓mb_3 hM, ↓mb_4 hM, ↓mb_5 hM, ↓mb_6 hM, ↓mb_7 hM, ↓mb_9 hM, ↓mb_10 hM, ↓mb_12 hM, ↓mb_22 hM, ↓mb_24 hM, ↓mb_25 hM, ↓mb_27 hM, ↓mb_28 hM, ↓mb_31 hM, ↓mb_32 hM, ↓mb_33 hM, ↓mb_35 hM, ↓mb_36 hM, ↓mb_37 hM, ↓mb_41 hM, ↓mb_42 hM, ↓mb_43 hM, ↓mb_44 hM, ↓mb_45 hM, ↓mb_46 hM, ↓mb_47 hM, ↓mb_48 hM, ↓mb_49 hM, ↓mb_55 hM, hM, f3_14, f3_15, f3_13, f3_u15, h1, hne, f3_ne, e3, ↓bn_of (m_small hb), ↓bn_of (m_digit hb), q1', q2', fX5_next_b114, f3_u16, f3_16, Bool.false_eq_true, m_nx149' hM, m_nx243' hM, uL_uL, ii_64]
end
