/-! PLAIN LAND, 16: lanes told apart: the model's search, and what apart answers -/
/-- steps that a level may take -/
def Cf : Nat → Nat
  | 0 => 1
  | e + 1 => 12 * (Cf e + 1)
theorem Cf_s (e : Nat) : Cf (e + 1) = 12 * (Cf e + 1) := rfl
theorem nA_push (col : Nat → Nat) (k v : Nat) : ∀ i, i ≤ k → nA (updN col k v) i = nA col i := by
  intro i hi
  apply nA_congr
  intro j hj
  rw [updN_at, if_neg (by omega)]
section
variable {T N : xT} {R : xR} {I : xI} {c s m n nf many : Nat} {A B W : Nat → Nat}
/-- one step of the search -/
theorem m_st1 (hM : MSh m T N R) (hn : n ≤ 10) (hm : many ≤ 10) {k q : Nat} {h : Nat → Int32} (hk : k < n) (hh : h k + ii 1 = ii many) :
    fX5_findNames_b16 nf T N R (q + 1) (sI I (m + 25) h) m (ii many) (ii n) (ii k) = fX5_findNames_b16 nf T N R q (sI I (m + 25) (upd h k (ii many))) m (ii many) (ii n) (ii k + (-1 : Int32)) := by
  rw [fX5_findNames_b16]
  simp (disch := omega) only [↓nm_v, ↓tg, ↓rA, ↓chk_if, ↓reduceIte, inb_ii, ii_nat, ii_add, and_self, bi_zb, if_bi, if_bi1, ii_leT, ii_leF, ii_ltT, ii_ltF, ii_eqF, ii_m1F, ↓mb_2 hM, ↓mb_3 hM, ↓mb_4 hM, ↓mb_5 hM, ↓mb_6 hM, ↓mb_7 hM, ↓mb_9 hM, ↓mb_10 hM, ↓mb_12 hM, ↓mb_22 hM, ↓mb_24 hM, ↓mb_25 hM, ↓mb_27 hM, ↓mb_28 hM, ↓mb_31 hM, ↓mb_32 hM, ↓mb_33 hM, ↓mb_35 hM, ↓mb_36 hM, ↓mb_37 hM, ↓mb_41 hM, ↓mb_42 hM, ↓mb_43 hM, ↓mb_44 hM, ↓mb_45 hM, ↓mb_46 hM, ↓mb_47 hM, ↓mb_48 hM, ↓mb_49 hM, ↓mb_55 hM, hM, sI_at, hh, uI_sI, upd_at]
theorem m_st2 (hM : MSh m T N R) (hn : n ≤ 10) (hm : many ≤ 10) (hnf : 70 < nf) {k v q : Nat} {h : Nat → Int32} {col : Nat → Nat} (hk : k < n) (hv : v < many) (hh : h k + ii 1 = ii v) (ha : arN k (upd h k (ii v)) col) (hc : ∀ i, i < k → col i < 100) (h1 : nA col k < v) :
    fX5_findNames_b16 nf T N R (q + 1) (sI I (m + 25) h) m (ii many) (ii n) (ii k) = fX5_findNames_b16 nf T N R q (sI I (m + 25) (upd h k (ii v))) m (ii many) (ii n) (ii k + (-1 : Int32)) := by
  have e2 := m_nA (I := sI I (m + 25) (upd h k (ii v))) (k := k) hM hnf (by omega) (by rw [sI_at]; exact ha) hc
  rw [fX5_findNames_b16]
  simp (disch := omega) only [↓nm_v, ↓tg, ↓rA, ↓chk_if, ↓reduceIte, inb_ii, ii_nat, ii_add, and_self, bi_zb, if_bi, if_bi1, ii_leT, ii_leF, ii_ltT, ii_ltF, ii_eqF, ii_m1F, ↓mb_2 hM, ↓mb_3 hM, ↓mb_4 hM, ↓mb_5 hM, ↓mb_6 hM, ↓mb_7 hM, ↓mb_9 hM, ↓mb_10 hM, ↓mb_12 hM, ↓mb_22 hM, ↓mb_24 hM, ↓mb_25 hM, ↓mb_27 hM, ↓mb_28 hM, ↓mb_31 hM, ↓mb_32 hM, ↓mb_33 hM, ↓mb_35 hM, ↓mb_36 hM, ↓mb_37 hM, ↓mb_41 hM, ↓mb_42 hM, ↓mb_43 hM, ↓mb_44 hM, ↓mb_45 hM, ↓mb_46 hM, ↓mb_47 hM, ↓mb_48 hM, ↓mb_49 hM, ↓mb_55 hM, hM, sI_at, hh, uI_sI, upd_at, ↓bn_of e2]
theorem m_st3 (hM : MSh m T N R) (hG : GrM I m n A B W) (hP : GrP n A B W) (hm : many ≤ 10) (hnf : 70 < nf) {k v q : Nat} {h : Nat → Int32} {col : Nat → Nat} (hk : k < n) (hv : v < many) (hh : h k + ii 1 = ii v) (ha : arN k (upd h k (ii v)) col) (hc : ∀ i, i < k → col i < 100) (h1 : v ≤ nA col k) (h2 : fit A B col k v = false) :
    fX5_findNames_b16 nf T N R (q + 1) (sI I (m + 25) h) m (ii many) (ii n) (ii k) = fX5_findNames_b16 nf T N R q (sI I (m + 25) (upd h k (ii v))) m (ii many) (ii n) (ii k) := by
  have hn := hP.1
  have hnA : nA col k ≤ 100 := nA_le hc
  have e2 := m_nA (I := sI I (m + 25) (upd h k (ii v))) (k := k) hM hnf (by omega) (by rw [sI_at]; exact ha) hc
  have e3 := m_fit (I := sI I (m + 25) (upd h k (ii v))) (v := v) hM (GrM_s hG (by omega) _) hP hnf hk (by rw [sI_at]; exact ha) (by rw [sI_at, upd_at, if_pos rfl]) hc (by omega)
  rw [fX5_findNames_b16]
  simp (disch := omega) only [↓nm_v, ↓tg, ↓rA, ↓chk_if, ↓reduceIte, inb_ii, ii_nat, ii_add, and_self, bi_zb, if_bi, if_bi1, ii_leT, ii_leF, ii_ltT, ii_ltF, ii_eqF, ii_m1F, ↓mb_2 hM, ↓mb_3 hM, ↓mb_4 hM, ↓mb_5 hM, ↓mb_6 hM, ↓mb_7 hM, ↓mb_9 hM, ↓mb_10 hM, ↓mb_12 hM, ↓mb_22 hM, ↓mb_24 hM, ↓mb_25 hM, ↓mb_27 hM, ↓mb_28 hM, ↓mb_31 hM, ↓mb_32 hM, ↓mb_33 hM, ↓mb_35 hM, ↓mb_36 hM, ↓mb_37 hM, ↓mb_41 hM, ↓mb_42 hM, ↓mb_43 hM, ↓mb_44 hM, ↓mb_45 hM, ↓mb_46 hM, ↓mb_47 hM, ↓mb_48 hM, ↓mb_49 hM, ↓mb_55 hM, hM, sI_at, hh, uI_sI, upd_at, ↓bn_of e2, ↓bn_of e3, h2, Bool.false_eq_true]
theorem m_st4 (hM : MSh m T N R) (hG : GrM I m n A B W) (hP : GrP n A B W) (hm : many ≤ 10) (hnf : 70 < nf) {k v q : Nat} {h : Nat → Int32} {col : Nat → Nat} (hk : k < n) (hv : v < many) (hh : h k + ii 1 = ii v) (ha : arN k (upd h k (ii v)) col) (hc : ∀ i, i < k → col i < 100) (h1 : v ≤ nA col k) (h2 : fit A B col k v = true) :
    fX5_findNames_b16 nf T N R (q + 1) (sI I (m + 25) h) m (ii many) (ii n) (ii k) = fX5_findNames_b16 nf T N R q (sI I (m + 25) (upd (upd h k (ii v)) (k + 1) (-1))) m (ii many) (ii n) (ii (k + 1)) := by
  have hn := hP.1
  have hnA : nA col k ≤ 100 := nA_le hc
  have e2 := m_nA (I := sI I (m + 25) (upd h k (ii v))) (k := k) hM hnf (by omega) (by rw [sI_at]; exact ha) hc
  have e3 := m_fit (I := sI I (m + 25) (upd h k (ii v))) (v := v) hM (GrM_s hG (by omega) _) hP hnf hk (by rw [sI_at]; exact ha) (by rw [sI_at, upd_at, if_pos rfl]) hc (by omega)
  rw [fX5_findNames_b16]
  simp (disch := omega) only [↓nm_v, ↓tg, ↓rA, ↓chk_if, ↓reduceIte, inb_ii, ii_nat, ii_add, and_self, bi_zb, if_bi, if_bi1, ii_leT, ii_leF, ii_ltT, ii_ltF, ii_eqF, ii_m1F, ↓mb_2 hM, ↓mb_3 hM, ↓mb_4 hM, ↓mb_5 hM, ↓mb_6 hM, ↓mb_7 hM, ↓mb_9 hM, ↓mb_10 hM, ↓mb_12 hM, ↓mb_22 hM, ↓mb_24 hM, ↓mb_25 hM, ↓mb_27 hM, ↓mb_28 hM, ↓mb_31 hM, ↓mb_32 hM, ↓mb_33 hM, ↓mb_35 hM, ↓mb_36 hM, ↓mb_37 hM, ↓mb_41 hM, ↓mb_42 hM, ↓mb_43 hM, ↓mb_44 hM, ↓mb_45 hM, ↓mb_46 hM, ↓mb_47 hM, ↓mb_48 hM, ↓mb_49 hM, ↓mb_55 hM, hM, sI_at, hh, uI_sI, upd_at, ↓bn_of e2, ↓bn_of e3, h2]
theorem m_st5 (hn : n ≤ 10) {q : Nat} {h : Nat → Int32} :
    fX5_findNames_b16 nf T N R (q + 1) (sI I (m + 25) h) m (ii many) (ii n) (ii n) = some (ii 1, sI I (m + 25) h) := by
  rw [fX5_findNames_b16, fX5_findNames_b86]
  simp (disch := omega) only [↓nm_v, ↓tg, ↓rA, ↓chk_if, ↓reduceIte, inb_ii, ii_nat, ii_add, and_self, bi_zb, if_bi, if_bi1, ii_leT, ii_leF, ii_ltT, ii_ltF, ii_eqF, ii_m1F]
/-- the outcome of a level -/
def dfsO (A B : Nat → Nat) (n many k cost q : Nat) (col : Nat → Nat) (F : Nat → (Nat → Int32) → Int32 → Option (Int32 × xI)) (G : (Nat → Int32) → xI) (X : Option (Int32 × xI)) : Prop :=
  (∃ h', X = some (ii 1, G h') ∧ ∃ c', leastC (Qr A B n many) n k col c' ∧ arN n h' c') ∨
  (∃ q' h', X = F q' h' (ii k + (-1 : Int32)) ∧ q ≤ q' + cost ∧ (∀ c', Qr A B n many c' → ¬ ∀ i, i < k → c' i = col i) ∧ arN k h' col)
theorem m_dfs (F : Nat → (Nat → Int32) → Int32 → Option (Int32 × xI)) (G : (Nat → Int32) → xI) (hm : many ≤ 10) (hn : n ≤ 10)
    (s1 : ∀ k q h, k < n → h k + ii 1 = ii many → F (q + 1) h (ii k) = F q (upd h k (ii many)) (ii k + (-1 : Int32)))
    (s2 : ∀ k v q h col, k < n → v < many → h k + ii 1 = ii v → arN k (upd h k (ii v)) col → (∀ i, i < k → col i < 100) → nA col k < v → F (q + 1) h (ii k) = F q (upd h k (ii v)) (ii k + (-1 : Int32)))
    (s3 : ∀ k v q h col, k < n → v < many → h k + ii 1 = ii v → arN k (upd h k (ii v)) col → (∀ i, i < k → col i < 100) → v ≤ nA col k → fit A B col k v = false → F (q + 1) h (ii k) = F q (upd h k (ii v)) (ii k))
    (s4 : ∀ k v q h col, k < n → v < many → h k + ii 1 = ii v → arN k (upd h k (ii v)) col → (∀ i, i < k → col i < 100) → v ≤ nA col k → fit A B col k v = true → F (q + 1) h (ii k) = F q (upd (upd h k (ii v)) (k + 1) (-1)) (ii (k + 1)))
    (s5 : ∀ q h, F (q + 1) h (ii n) = some (ii 1, G h)) : ∀ (e k q : Nat) (h : Nat → Int32) (col : Nat → Nat), k + e = n → Cf e < q → arN k h col → (k < n → h k = -1) → Qc A B k many col → (∀ i, i < k → col i ≤ nA col i) →
    dfsO A B n many k (Cf e) q col F G (F q h (ii k)) := by
  intro e
  induction e with
  | zero =>
    intro k q h col hk hq ha _ hQ hr
    obtain ⟨q, rfl⟩ : ∃ k', q = k' + 1 := ⟨q - 1, by omega⟩
    have : k = n := by omega
    subst this
    refine Or.inl ⟨h, s5 q h, col, ⟨⟨hQ, hr⟩, fun _ _ => rfl, ?_⟩, ha⟩
    rintro c' _ h2 ⟨j, hj, _, h3⟩
    rw [h2 j hj] at h3
    omega
  | succ e ih =>
    intro k q h col hk hq ha hh hQ hr
    have hkn : k < n := by omega
    have hc100 : ∀ i, i < k → col i < 100 := fun i hi => by have := (hQ i hi).1; omega
    have inner : ∀ (w v q : Nat) (h : Nat → Int32), v + w = many → (w + 1) * (Cf e + 1) < q → arN k h col → h k + ii 1 = ii v → (∀ c', Qr A B n many c' → (∀ i, i < k → c' i = col i) → ¬ c' k < v) →
        dfsO A B n many k ((w + 1) * (Cf e + 1)) q col F G (F q h (ii k)) := by
      intro w
      induction w with
      | zero =>
        intro v q h hv hq ha hh hno
        obtain ⟨q, rfl⟩ : ∃ k', q = k' + 1 := ⟨q - 1, by omega⟩
        have : v = many := by omega
        subst this
        refine Or.inr ⟨q, upd h k (ii v), s1 k q h hkn hh, by omega, fun c' h1 h2 => hno c' h1 h2 (h1.1 k hkn).1, ?_⟩
        intro j hj
        rw [upd_at, if_neg (by omega)]
        exact ha j hj
      | succ w ihw =>
        intro v q h hv hq ha hh hno
        obtain ⟨q, rfl⟩ : ∃ k', q = k' + 1 := ⟨q - 1, by omega⟩
        have hmul : (w + 1 + 1) * (Cf e + 1) = (w + 1) * (Cf e + 1) + (Cf e + 1) := Nat.succ_mul _ _
        have ha' : arN k (upd h k (ii v)) col := by
          intro j hj
          rw [upd_at, if_neg (by omega)]
          exact ha j hj
        by_cases q1 : v ≤ nA col k
        · cases q2 : fit A B col k v with
          | false =>
            rw [s3 k v q h col hkn (by omega) hh ha' hc100 q1 q2]
            have := ihw (v + 1) q (upd h k (ii v)) (by omega) (by omega) ha' (by rw [upd_at, if_pos rfl, ii_add]) (col_none hno (fun c' h1 h2 => fit_no hkn q2 c' h1.1 h2))
            rcases this with h1 | ⟨q', h', h1, h2, h3, h4⟩
            · exact Or.inl h1
            · exact Or.inr ⟨q', h', h1, by omega, h3, h4⟩
          | true =>
            rw [s4 k v q h col hkn (by omega) hh ha' hc100 q1 q2]
            have := ih (k + 1) q (upd (upd h k (ii v)) (k + 1) (-1)) (updN col k v) (by omega) (by omega) (by
                intro j hj
                rw [upd_at, if_neg (by omega)]
                exact arN_push ha v j hj) (fun _ => by rw [upd_at, if_pos rfl]) (Qc_push hQ (by omega) q2) (by
                intro i hi
                by_cases q3 : i = k
                · subst q3
                  rw [updN_at, if_pos rfl, nA_push _ _ _ _ (Nat.le_refl _)]
                  exact q1
                · rw [updN_at, if_neg q3, nA_push _ _ _ _ (by omega)]
                  exact hr i (by omega))
            rcases this with ⟨h', h1, c', h2, h3⟩ | ⟨q', h', h1, h2, h3, h4⟩
            · exact Or.inl ⟨h', h1, c', col_true hkn hno h2, h3⟩
            · have hb : ii (k + 1) + (-1 : Int32) = ii k := by rw [ii_dec (by omega)]; rfl
              rw [h1, hb]
              have hh' : h' k + ii 1 = ii (v + 1) := by
                have := h4 k (by omega)
                rw [updN_at, if_pos rfl] at this
                rw [this, ii_add]
              have h4' : arN k h' col := by
                intro j hj
                have := h4 j (by omega)
                rw [updN_at, if_neg (by omega)] at this
                exact this
              have := ihw (v + 1) q' h' (by omega) (by omega) h4' hh' (col_none hno (col_back h3))
              rcases this with h5 | ⟨q'', h'', h5, h6, h7, h8⟩
              · exact Or.inl h5
              · exact Or.inr ⟨q'', h'', h5, by omega, h7, h8⟩
        · refine Or.inr ⟨q, upd h k (ii v), s2 k v q h col hkn (by omega) hh ha' hc100 (by omega), by omega, ?_, ha'⟩
          intro c' h1 h2
          have h3 := hno c' h1 h2
          have h4 := h1.2 k hkn
          rw [nA_congr h2] at h4
          omega
    have hcm : (many + 1) * (Cf e + 1) ≤ Cf (e + 1) := by
      rw [Cf_s]
      exact Nat.mul_le_mul_right _ (by omega)
    have := inner many 0 q h (by omega) (by omega) ha (by rw [hh hkn]; decide) (fun c' _ _ h => by omega)
    rcases this with h5 | ⟨q'', h'', h5, h6, h7, h8⟩
    · exact Or.inl h5
    · exact Or.inr ⟨q'', h'', h5, by omega, h7, h8⟩
theorem Cf_le : ∀ e, e ≤ 10 → Cf e ≤ 1000000000000 := by decide +kernel
theorem m_findNames (hM : MSh m T N R) (hG : GrM I m n A B W) (hP : GrP n A B W) (hnf : 10000000000000 < nf) (hm : many ≤ 10) :
    ∃ r h', fX5_findNames nf T N I R m (ii many) = some (bi r, sI I (m + 25) h') ∧ ((r = true ∧ ∃ p c', leastC (Qr A B n many) n 0 p c' ∧ arN n h' c') ∨ (r = false ∧ ∀ c', ¬ Qr A B n many c')) := by
  have hn := hP.1
  have hz : (-1 : Int32) + ii 1 = ii 0 := by decide
  unfold fX5_findNames
  simp (disch := omega) only [↓nm_v, ↓tg, ↓rA, ↓chk_if, ↓reduceIte, inb_ii, ii_nat, ii_add, and_self, bi_zb, if_bi, if_bi1, ii_leT, ii_leF, ii_ltT, ii_ltF, ii_eqF, ii_m1F, ↓mb_2 hM, ↓mb_3 hM, ↓mb_4 hM, ↓mb_5 hM, ↓mb_6 hM, ↓mb_7 hM, ↓mb_9 hM, ↓mb_10 hM, ↓mb_12 hM, ↓mb_22 hM, ↓mb_24 hM, ↓mb_25 hM, ↓mb_27 hM, ↓mb_28 hM, ↓mb_31 hM, ↓mb_32 hM, ↓mb_33 hM, ↓mb_35 hM, ↓mb_36 hM, ↓mb_37 hM, ↓mb_41 hM, ↓mb_42 hM, ↓mb_43 hM, ↓mb_44 hM, ↓mb_45 hM, ↓mb_46 hM, ↓mb_47 hM, ↓mb_48 hM, ↓mb_49 hM, ↓mb_55 hM, hM, hG, uI_s]
  have hC9 := Cf_le n (by omega)
  have hnf2 : 70 < nf := by omega
  have := m_dfs (A := A) (B := B) (n := n) (many := many) (fun q h x => fX5_findNames_b16 nf T N R q (sI I (m + 25) h) m (ii many) (ii n) x) (fun h => sI I (m + 25) h) hm hn
    (fun k q h a b => m_st1 hM hn hm a b) (fun k v q h col a b c d e f => m_st2 hM hn hm hnf2 a b c d e f)
    (fun k v q h col a b c d e f g => m_st3 hM hG hP hm hnf2 a b c d e f g) (fun k v q h col a b c d e f g => m_st4 hM hG hP hm hnf2 a b c d e f g) (fun q h => m_st5 hn)
    n 0 nf (upd (I (m + 25)) 0 (-1)) (fun _ => 0) (by omega) (by omega) (fun j hj => by omega) (fun _ => by rw [upd_at, if_pos rfl]) (fun i hi => by omega) (fun i hi => by omega)
  rcases this with ⟨h', h1, c', h2, h3⟩ | ⟨q', h', h1, h2, h3, h4⟩
  · exact ⟨true, h', h1, Or.inl ⟨rfl, _, c', h2, h3⟩⟩
  · obtain ⟨q', rfl⟩ : ∃ k', q' = k' + 1 := ⟨q' - 1, by omega⟩
    refine ⟨false, h', ?_, Or.inr ⟨rfl, fun c' hc => h3 c' hc (fun i hi => by omega)⟩⟩
    refine h1.trans ?_
    show fX5_findNames_b16 nf T N R (q' + 1) (sI I (m + 25) h') m (ii many) (ii n) (ii 0 + (-1 : Int32)) = _
    rw [fX5_findNames_b16, if_pos (show ii 0 + (-1 : Int32) < ii 0 by decide), fX5_findNames_b86, show ii 0 + (-1 : Int32) = -1 by decide, if_neg (fun h => ii_m1 (show n < 2147483648 by omega) h.symm)]
    rfl
/-- what apart answers -/
def apOK (A B : Nat → Nat) (n many : Nat) (c : Nat → Nat) : Prop := leastC (Qc A B n many) n 0 (fun _ => 0) c ∧ ∀ k, k < many → ∀ c', ¬ Qc A B n k c'
theorem least_pre {Q : (Nat → Nat) → Prop} {n : Nat} {p p' c : Nat → Nat} (h : leastC Q n 0 p c) : leastC Q n 0 p' c := ⟨h.1, fun i hi => by omega, fun c' h1 _ => h.2.2 c' h1 (fun i hi => by omega)⟩
theorem c_apartL (hC : CSh c s T N R) (hS : StSh s T N R) (hs : s = c + 2) (hG : GrC I s n A B W) (hP : GrP n A B W) (hnf : 70 < nf) (x : Int32) : ∀ (d many k : Nat) (h : Nat → Int32), many + d = n → d < k → (∀ k, k < many → ∀ c', ¬ Qc A B n k c') →
    ∃ M cc h', apOK A B n M cc ∧ M ≤ 10 ∧ arN n h' cc ∧ fX0_apart_b19 nf T N R k (sI I (c + 37) h) c x (ii many) = if x = ii 0 then some (ii M, sI I (c + 37) h') else rA T N 100 (c + 37) (x - ii 1) fun j8 => some (h' j8, sI I (c + 37) h') := by
  have hn := hP.1
  intro d
  induction d with
  | zero =>
    intro many k h hm hk hno
    obtain ⟨k, rfl⟩ : ∃ k', k = k' + 1 := ⟨k - 1, by omega⟩
    obtain ⟨r, h', e, h1⟩ := c_colours (many := many) hC hS hs hG hP hnf (by omega) n 12 0 h (fun _ => 0) (by omega) (by omega) (fun j hj => by omega) (fun i hi => by omega)
    rcases h1 with ⟨rfl, c', h2, h3⟩ | ⟨rfl, h2, _⟩
    · refine ⟨many, c', h', ⟨h2, hno⟩, by omega, h3, ?_⟩
      rw [fX0_apart_b19]
      simp (disch := omega) only [↓nm_v, ↓tg, ↓rA, ↓chk_if, ↓reduceIte, inb_ii, ii_nat, ii_add, and_self, bi_zb, if_bi, if_bi1, ii_leT, ii_leF, ii_ltT, ii_ltF, ii_eqF, ii_m1F, ↓cb_2 hC, ↓cb_1 hC, ↓cb_3 hC, ↓cb_4 hC, ↓cb_5 hC, ↓cb_6 hC, ↓cb_7 hC, ↓cb_10 hC, ↓cb_17 hC, ↓cb_18 hC, ↓cb_19 hC, ↓cb_20 hC, ↓cb_21 hC, ↓cb_22 hC, ↓cb_23 hC, ↓cb_8 hC, ↓cb_9 hC, ↓cb_24 hC, ↓cb_16 hC, ↓cb29_0 hC, ↓cb29_1 hC, ↓sb_0 hS, ↓sb1_0 hS, ↓sb1_1 hS, ↓sb1_2 hS, ↓sb_1 hS, ↓sb_2 hS, ↓sb_3 hS, ↓sb_4 hS, ↓sb_5 hS, ↓sb_6 hS, ↓sb_7 hS, hC, hS, ↓b2_of e, sI_at]
    · have : many = n := by omega
      subst this
      exact absurd (fun i hi => by omega) (h2 (fun i => i) col_id)
  | succ d ih =>
    intro many k h hm hk hno
    obtain ⟨k, rfl⟩ : ∃ k', k = k' + 1 := ⟨k - 1, by omega⟩
    obtain ⟨r, h', e, h1⟩ := c_colours (many := many) hC hS hs hG hP hnf (by omega) n 12 0 h (fun _ => 0) (by omega) (by omega) (fun j hj => by omega) (fun i hi => by omega)
    rcases h1 with ⟨rfl, c', h2, h3⟩ | ⟨rfl, h2, _⟩
    · refine ⟨many, c', h', ⟨h2, hno⟩, by omega, h3, ?_⟩
      rw [fX0_apart_b19]
      simp (disch := omega) only [↓nm_v, ↓tg, ↓rA, ↓chk_if, ↓reduceIte, inb_ii, ii_nat, ii_add, and_self, bi_zb, if_bi, if_bi1, ii_leT, ii_leF, ii_ltT, ii_ltF, ii_eqF, ii_m1F, ↓cb_2 hC, ↓cb_1 hC, ↓cb_3 hC, ↓cb_4 hC, ↓cb_5 hC, ↓cb_6 hC, ↓cb_7 hC, ↓cb_10 hC, ↓cb_17 hC, ↓cb_18 hC, ↓cb_19 hC, ↓cb_20 hC, ↓cb_21 hC, ↓cb_22 hC, ↓cb_23 hC, ↓cb_8 hC, ↓cb_9 hC, ↓cb_24 hC, ↓cb_16 hC, ↓cb29_0 hC, ↓cb29_1 hC, ↓sb_0 hS, ↓sb1_0 hS, ↓sb1_1 hS, ↓sb1_2 hS, ↓sb_1 hS, ↓sb_2 hS, ↓sb_3 hS, ↓sb_4 hS, ↓sb_5 hS, ↓sb_6 hS, ↓sb_7 hS, hC, hS, ↓b2_of e, sI_at]
    · obtain ⟨M, cc, h'', a1, a2, a3, a4⟩ := ih (many + 1) k h' (by omega) (by omega) (fun k' hk' c' hQ => by
          by_cases q : k' = many
          · subst q
            exact h2 c' hQ (fun i hi => by omega)
          · exact hno k' (by omega) c' hQ)
      refine ⟨M, cc, h'', a1, a2, a3, ?_⟩
      refine Eq.trans ?_ a4
      rw [fX0_apart_b19]
      simp (disch := omega) only [↓nm_v, ↓tg, ↓rA, ↓chk_if, ↓reduceIte, inb_ii, ii_nat, ii_add, and_self, bi_zb, if_bi, if_bi1, ii_leT, ii_leF, ii_ltT, ii_ltF, ii_eqF, ii_m1F, ↓cb_2 hC, ↓cb_1 hC, ↓cb_3 hC, ↓cb_4 hC, ↓cb_5 hC, ↓cb_6 hC, ↓cb_7 hC, ↓cb_10 hC, ↓cb_17 hC, ↓cb_18 hC, ↓cb_19 hC, ↓cb_20 hC, ↓cb_21 hC, ↓cb_22 hC, ↓cb_23 hC, ↓cb_8 hC, ↓cb_9 hC, ↓cb_24 hC, ↓cb_16 hC, ↓cb29_0 hC, ↓cb29_1 hC, ↓sb_0 hS, ↓sb1_0 hS, ↓sb1_1 hS, ↓sb1_2 hS, ↓sb_1 hS, ↓sb_2 hS, ↓sb_3 hS, ↓sb_4 hS, ↓sb_5 hS, ↓sb_6 hS, ↓sb_7 hS, hC, hS, ↓b2_of e, Bool.false_eq_true]
theorem m_apartL (hM : MSh m T N R) (hG : GrM I m n A B W) (hP : GrP n A B W) (hnf : 10000000000000 < nf) {M : Nat} {cc : Nat → Nat} (hA : apOK A B n M cc) (hM10 : M ≤ 10) (x : Int32) : ∀ (d many k : Nat) (h : Nat → Int32), many + d = M → d < k →
    ∃ h', arN n h' cc ∧ fX5_apart_b25 nf T N R k (sI I (m + 25) h) m x (ii many) = if x = ii 0 then some (ii M, sI I (m + 25) h') else rA T N 100 (m + 25) (x - ii 1) fun j8 => some (h' j8, sI I (m + 25) h') := by
  have hn := hP.1
  intro d
  induction d with
  | zero =>
    intro many k h hm hk
    obtain ⟨k, rfl⟩ : ∃ k', k = k' + 1 := ⟨k - 1, by omega⟩
    have : many = M := by omega
    subst this
    obtain ⟨r, h', e, h1⟩ := m_findNames (many := many) hM (GrM_s hG (a := m + 25) (by omega) h) hP hnf (by omega)
    rw [sI_sI] at e
    rcases h1 with ⟨rfl, p, c', h2, h3⟩ | ⟨rfl, h2⟩
    · refine ⟨h', fun j hj => by rw [h3 j hj, col_same hA.1 h2 j hj], ?_⟩
      rw [fX5_apart_b25]
      simp (disch := omega) only [↓nm_v, ↓tg, ↓rA, ↓chk_if, ↓reduceIte, inb_ii, ii_nat, ii_add, and_self, bi_zb, if_bi, if_bi1, ii_leT, ii_leF, ii_ltT, ii_ltF, ii_eqF, ii_m1F, ↓mb_2 hM, ↓mb_3 hM, ↓mb_4 hM, ↓mb_5 hM, ↓mb_6 hM, ↓mb_7 hM, ↓mb_9 hM, ↓mb_10 hM, ↓mb_12 hM, ↓mb_22 hM, ↓mb_24 hM, ↓mb_25 hM, ↓mb_27 hM, ↓mb_28 hM, ↓mb_31 hM, ↓mb_32 hM, ↓mb_33 hM, ↓mb_35 hM, ↓mb_36 hM, ↓mb_37 hM, ↓mb_41 hM, ↓mb_42 hM, ↓mb_43 hM, ↓mb_44 hM, ↓mb_45 hM, ↓mb_46 hM, ↓mb_47 hM, ↓mb_48 hM, ↓mb_49 hM, ↓mb_55 hM, hM, ↓b2_of e, sI_at]
    · exact absurd ⟨hA.1.1, col_rg hA.1⟩ (h2 cc)
  | succ d ih =>
    intro many k h hm hk
    obtain ⟨k, rfl⟩ : ∃ k', k = k' + 1 := ⟨k - 1, by omega⟩
    obtain ⟨r, h', e, h1⟩ := m_findNames (many := many) hM (GrM_s hG (a := m + 25) (by omega) h) hP hnf (by omega)
    rw [sI_sI] at e
    rcases h1 with ⟨rfl, p, c', h2, h3⟩ | ⟨rfl, h2⟩
    · exact absurd h2.1.1 (hA.2 many (by omega) c')
    · obtain ⟨h'', a1, a2⟩ := ih (many + 1) k h' (by omega) (by omega)
      refine ⟨h'', a1, ?_⟩
      refine Eq.trans ?_ a2
      rw [fX5_apart_b25]
      simp (disch := omega) only [↓nm_v, ↓tg, ↓rA, ↓chk_if, ↓reduceIte, inb_ii, ii_nat, ii_add, and_self, bi_zb, if_bi, if_bi1, ii_leT, ii_leF, ii_ltT, ii_ltF, ii_eqF, ii_m1F, ↓mb_2 hM, ↓mb_3 hM, ↓mb_4 hM, ↓mb_5 hM, ↓mb_6 hM, ↓mb_7 hM, ↓mb_9 hM, ↓mb_10 hM, ↓mb_12 hM, ↓mb_22 hM, ↓mb_24 hM, ↓mb_25 hM, ↓mb_27 hM, ↓mb_28 hM, ↓mb_31 hM, ↓mb_32 hM, ↓mb_33 hM, ↓mb_35 hM, ↓mb_36 hM, ↓mb_37 hM, ↓mb_41 hM, ↓mb_42 hM, ↓mb_43 hM, ↓mb_44 hM, ↓mb_45 hM, ↓mb_46 hM, ↓mb_47 hM, ↓mb_48 hM, ↓mb_49 hM, ↓mb_55 hM, hM, ↓b2_of e, Bool.false_eq_true]
/-- apart, both sides at once: the answer, and the arrays -/
theorem q_apart (hC : CSh c s T N R) (hS : StSh s T N R) (hs : s = c + 2) (hG : GrC I s n A B W) (hP : GrP n A B W) (hnf : 10000000000000 < nf) (x : Int32) {I' : xI} (hM : MSh m T N R) (hG' : GrM I' m n A B W) :
    ∃ r h1 h2, fX0_apart nf T N I R c x = some (r, sI I (c + 37) h1) ∧ fX5_apart nf T N I' R m x = some (r, sI (uI I' m 0 (ii 0)) (m + 25) h2) := by
  have hn := hP.1
  have hG2 := GrM_t hG' 0 (ii 0)
  obtain ⟨M, cc, h1, a1, a2, a3, a4⟩ := c_apartL hC hS hs hG hP (show 70 < nf by omega) x n 0 nf (I (c + 37)) (by omega) (by omega) (fun k hk => by omega)
  obtain ⟨h2, b1, b2⟩ := m_apartL hM hG2 hP hnf a1 a2 x M 0 nf (uI I' m 0 (ii 0) (m + 25)) (by omega) (by omega)
  rw [sI_id] at a4 b2
  have hi1 : fX0_in x (ii 0) (I s 8) = some (bi (rg x 0 n)) := by
    rw [c_in, hG.1, ii_toInt (n := n) (by omega)]
    rfl
  have hi2 : fX5_in x.toInt64 (jj 0) (uI I' m 0 (ii 0) (m + 2) 0).toInt64 = some (bi (rg x 0 n)) := by
    rw [m_in, hG2.1, i64_int, ii_toInt (n := n) (by omega)]
    rfl
  unfold fX0_apart fX5_apart
  cases q : rg x 0 n with
  | false =>
    refine ⟨-1, I (c + 37), uI I' m 0 (ii 0) (m + 25), ?_, ?_⟩
    · rw [sI_id]
      simp (disch := omega) only [↓nm_v, ↓tg, ↓rA, ↓chk_if, ↓reduceIte, inb_ii, ii_nat, ii_add, and_self, bi_zb, if_bi, if_bi1, ii_leT, ii_leF, ii_ltT, ii_ltF, ii_eqF, ii_m1F, ↓cb_2 hC, ↓cb_1 hC, ↓cb_3 hC, ↓cb_4 hC, ↓cb_5 hC, ↓cb_6 hC, ↓cb_7 hC, ↓cb_10 hC, ↓cb_17 hC, ↓cb_18 hC, ↓cb_19 hC, ↓cb_20 hC, ↓cb_21 hC, ↓cb_22 hC, ↓cb_23 hC, ↓cb_8 hC, ↓cb_9 hC, ↓cb_24 hC, ↓cb_16 hC, ↓cb29_0 hC, ↓cb29_1 hC, ↓sb_0 hS, ↓sb1_0 hS, ↓sb1_1 hS, ↓sb1_2 hS, ↓sb_1 hS, ↓sb_2 hS, ↓sb_3 hS, ↓sb_4 hS, ↓sb_5 hS, ↓sb_6 hS, ↓sb_7 hS, hC, hS, ↓bn_of hi1, q, Bool.false_eq_true]
    · rw [sI_id]
      simp (disch := omega) only [↓nm_v, ↓tg, ↓rA, ↓chk_if, ↓reduceIte, inb_ii, ii_nat, ii_add, and_self, bi_zb, if_bi, if_bi1, ii_leT, ii_leF, ii_ltT, ii_ltF, ii_eqF, ii_m1F, ↓mb_2 hM, ↓mb_3 hM, ↓mb_4 hM, ↓mb_5 hM, ↓mb_6 hM, ↓mb_7 hM, ↓mb_9 hM, ↓mb_10 hM, ↓mb_12 hM, ↓mb_22 hM, ↓mb_24 hM, ↓mb_25 hM, ↓mb_27 hM, ↓mb_28 hM, ↓mb_31 hM, ↓mb_32 hM, ↓mb_33 hM, ↓mb_35 hM, ↓mb_36 hM, ↓mb_37 hM, ↓mb_41 hM, ↓mb_42 hM, ↓mb_43 hM, ↓mb_44 hM, ↓mb_45 hM, ↓mb_46 hM, ↓mb_47 hM, ↓mb_48 hM, ↓mb_49 hM, ↓mb_55 hM, hM, ↓bn_of hi2, q, Bool.false_eq_true]
  | true =>
    obtain ⟨k, rfl, hk, _⟩ := rg_ex q
    by_cases q0 : k = 0
    · subst q0
      rw [if_pos rfl] at a4 b2
      refine ⟨ii M, h1, h2, ?_, ?_⟩
      · simp (disch := omega) only [↓nm_v, ↓tg, ↓rA, ↓chk_if, ↓reduceIte, inb_ii, ii_nat, ii_add, and_self, bi_zb, if_bi, if_bi1, ii_leT, ii_leF, ii_ltT, ii_ltF, ii_eqF, ii_m1F, ↓cb_2 hC, ↓cb_1 hC, ↓cb_3 hC, ↓cb_4 hC, ↓cb_5 hC, ↓cb_6 hC, ↓cb_7 hC, ↓cb_10 hC, ↓cb_17 hC, ↓cb_18 hC, ↓cb_19 hC, ↓cb_20 hC, ↓cb_21 hC, ↓cb_22 hC, ↓cb_23 hC, ↓cb_8 hC, ↓cb_9 hC, ↓cb_24 hC, ↓cb_16 hC, ↓cb29_0 hC, ↓cb29_1 hC, ↓sb_0 hS, ↓sb1_0 hS, ↓sb1_1 hS, ↓sb1_2 hS, ↓sb_1 hS, ↓sb_2 hS, ↓sb_3 hS, ↓sb_4 hS, ↓sb_5 hS, ↓sb_6 hS, ↓sb_7 hS, hC, hS, ↓bn_of hi1, q]
        exact a4
      · simp (disch := omega) only [↓nm_v, ↓tg, ↓rA, ↓chk_if, ↓reduceIte, inb_ii, ii_nat, ii_add, and_self, bi_zb, if_bi, if_bi1, ii_leT, ii_leF, ii_ltT, ii_ltF, ii_eqF, ii_m1F, ↓mb_2 hM, ↓mb_3 hM, ↓mb_4 hM, ↓mb_5 hM, ↓mb_6 hM, ↓mb_7 hM, ↓mb_9 hM, ↓mb_10 hM, ↓mb_12 hM, ↓mb_22 hM, ↓mb_24 hM, ↓mb_25 hM, ↓mb_27 hM, ↓mb_28 hM, ↓mb_31 hM, ↓mb_32 hM, ↓mb_33 hM, ↓mb_35 hM, ↓mb_36 hM, ↓mb_37 hM, ↓mb_41 hM, ↓mb_42 hM, ↓mb_43 hM, ↓mb_44 hM, ↓mb_45 hM, ↓mb_46 hM, ↓mb_47 hM, ↓mb_48 hM, ↓mb_49 hM, ↓mb_55 hM, hM, ↓bn_of hi2, q]
        exact b2
    · rw [if_neg (fun h => q0 ((ii_eq (by omega) (by omega)).mp h)), ii_sub (by omega)] at a4 b2
      have e1 := a3 (k - 1) (by omega)
      have e2 := b1 (k - 1) (by omega)
      refine ⟨ii (cc (k - 1)), h1, h2, ?_, ?_⟩
      · simp (disch := omega) only [↓nm_v, ↓tg, ↓rA, ↓chk_if, ↓reduceIte, inb_ii, ii_nat, ii_add, and_self, bi_zb, if_bi, if_bi1, ii_leT, ii_leF, ii_ltT, ii_ltF, ii_eqF, ii_m1F, ↓cb_2 hC, ↓cb_1 hC, ↓cb_3 hC, ↓cb_4 hC, ↓cb_5 hC, ↓cb_6 hC, ↓cb_7 hC, ↓cb_10 hC, ↓cb_17 hC, ↓cb_18 hC, ↓cb_19 hC, ↓cb_20 hC, ↓cb_21 hC, ↓cb_22 hC, ↓cb_23 hC, ↓cb_8 hC, ↓cb_9 hC, ↓cb_24 hC, ↓cb_16 hC, ↓cb29_0 hC, ↓cb29_1 hC, ↓sb_0 hS, ↓sb1_0 hS, ↓sb1_1 hS, ↓sb1_2 hS, ↓sb_1 hS, ↓sb_2 hS, ↓sb_3 hS, ↓sb_4 hS, ↓sb_5 hS, ↓sb_6 hS, ↓sb_7 hS, hC, hS, ↓bn_of hi1, q]
        rw [a4]
        simp (disch := omega) only [↓nm_v, ↓tg, ↓rA, ↓chk_if, ↓reduceIte, inb_ii, ii_nat, ii_add, and_self, bi_zb, if_bi, if_bi1, ii_leT, ii_leF, ii_ltT, ii_ltF, ii_eqF, ii_m1F, ↓cb_2 hC, ↓cb_1 hC, ↓cb_3 hC, ↓cb_4 hC, ↓cb_5 hC, ↓cb_6 hC, ↓cb_7 hC, ↓cb_10 hC, ↓cb_17 hC, ↓cb_18 hC, ↓cb_19 hC, ↓cb_20 hC, ↓cb_21 hC, ↓cb_22 hC, ↓cb_23 hC, ↓cb_8 hC, ↓cb_9 hC, ↓cb_24 hC, ↓cb_16 hC, ↓cb29_0 hC, ↓cb29_1 hC, ↓sb_0 hS, ↓sb1_0 hS, ↓sb1_1 hS, ↓sb1_2 hS, ↓sb_1 hS, ↓sb_2 hS, ↓sb_3 hS, ↓sb_4 hS, ↓sb_5 hS, ↓sb_6 hS, ↓sb_7 hS, hC, hS, e1]
      · simp (disch := omega) only [↓nm_v, ↓tg, ↓rA, ↓chk_if, ↓reduceIte, inb_ii, ii_nat, ii_add, and_self, bi_zb, if_bi, if_bi1, ii_leT, ii_leF, ii_ltT, ii_ltF, ii_eqF, ii_m1F, ↓mb_2 hM, ↓mb_3 hM, ↓mb_4 hM, ↓mb_5 hM, ↓mb_6 hM, ↓mb_7 hM, ↓mb_9 hM, ↓mb_10 hM, ↓mb_12 hM, ↓mb_22 hM, ↓mb_24 hM, ↓mb_25 hM, ↓mb_27 hM, ↓mb_28 hM, ↓mb_31 hM, ↓mb_32 hM, ↓mb_33 hM, ↓mb_35 hM, ↓mb_36 hM, ↓mb_37 hM, ↓mb_41 hM, ↓mb_42 hM, ↓mb_43 hM, ↓mb_44 hM, ↓mb_45 hM, ↓mb_46 hM, ↓mb_47 hM, ↓mb_48 hM, ↓mb_49 hM, ↓mb_55 hM, hM, ↓bn_of hi2, q]
        rw [b2]
        simp (disch := omega) only [↓nm_v, ↓tg, ↓rA, ↓chk_if, ↓reduceIte, inb_ii, ii_nat, ii_add, and_self, bi_zb, if_bi, if_bi1, ii_leT, ii_leF, ii_ltT, ii_ltF, ii_eqF, ii_m1F, ↓mb_2 hM, ↓mb_3 hM, ↓mb_4 hM, ↓mb_5 hM, ↓mb_6 hM, ↓mb_7 hM, ↓mb_9 hM, ↓mb_10 hM, ↓mb_12 hM, ↓mb_22 hM, ↓mb_24 hM, ↓mb_25 hM, ↓mb_27 hM, ↓mb_28 hM, ↓mb_31 hM, ↓mb_32 hM, ↓mb_33 hM, ↓mb_35 hM, ↓mb_36 hM, ↓mb_37 hM, ↓mb_41 hM, ↓mb_42 hM, ↓mb_43 hM, ↓mb_44 hM, ↓mb_45 hM, ↓mb_46 hM, ↓mb_47 hM, ↓mb_48 hM, ↓mb_49 hM, ↓mb_55 hM, hM, e2]
end
