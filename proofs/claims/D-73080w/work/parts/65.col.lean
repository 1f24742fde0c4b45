/-! PLAIN LAND, 15: lanes told apart, both sides -/
def fitS (A B : Nat → Nat) (col : Nat → Nat) (k v l : Nat) (b : Bool) : Bool := b && (decide (col l ≠ v) || !mt A B l k)
def fit (A B : Nat → Nat) (col : Nat → Nat) (k v : Nat) : Bool := rngF (fitS A B col k v) k 0 true
theorem fit_upto {A B : Nat → Nat} {col : Nat → Nat} {k v : Nat} : ∀ d, (rngF (fitS A B col k v) d 0 true = true) ↔ ∀ l, l < d → col l ≠ v ∨ mt A B l k = false := by
  intro d
  induction d with
  | zero => exact ⟨fun _ l h => by omega, fun _ => rfl⟩
  | succ d ih =>
    rw [rngF_s]
    unfold fitS
    rw [Bool.and_eq_true, Bool.or_eq_true, decide_eq_true_eq, Bool.not_eq_true']
    constructor
    · rintro ⟨h1, h2⟩ l hl
      by_cases q : l = d
      · subst q; exact h2
      · exact ih.mp h1 l (by omega)
    · intro h
      exact ⟨ih.mpr (fun l hl => h l (by omega)), h d (by omega)⟩
theorem fit_iff {A B : Nat → Nat} {col : Nat → Nat} {k v : Nat} : (fit A B col k v = true) ↔ ∀ l, l < k → col l ≠ v ∨ mt A B l k = false := fit_upto k
theorem bi_and1 (b : Bool) : bi b &&& ii 1 = bi b := by cases b <;> decide
theorem bi_and0 (b : Bool) : bi b &&& ii 0 = bi false := by cases b <;> decide
theorem Qc_push {A B : Nat → Nat} {col : Nat → Nat} {k v many : Nat} (h : Qc A B k many col) (hv : v < many) (hf : fit A B col k v = true) : Qc A B (k + 1) many (updN col k v) := by
  intro i hi
  by_cases q : i = k
  · subst q
    rw [updN_at, if_pos rfl]
    refine ⟨hv, fun j hj => ?_⟩
    rw [updN_at, if_neg (by omega)]
    exact fit_iff.mp hf j hj
  · rw [updN_at, if_neg q]
    refine ⟨(h i (by omega)).1, fun j hj => ?_⟩
    rw [updN_at, if_neg (by omega)]
    exact (h i (by omega)).2 j hj
theorem fit_no {A B : Nat → Nat} {col : Nat → Nat} {n k v many : Nat} (hk : k < n) (hf : fit A B col k v = false) : ∀ c', Qc A B n many c' → (∀ i, i < k → c' i = col i) → c' k ≠ v := by
  intro c' hQ hp e
  have : fit A B col k v = true := fit_iff.mpr (fun l hl => by
    have := (hQ k hk).2 l hl
    rw [e, hp l hl] at this
    exact this)
  rw [hf] at this
  exact absurd this (by decide)
theorem arN_push {k : Nat} {h : Nat → Int32} {col : Nat → Nat} (ha : arN k h col) (v : Nat) : arN (k + 1) (upd h k (ii v)) (updN col k v) := by
  intro j hj
  rw [upd_at, updN_at]
  by_cases q : j = k
  · rw [if_pos q, if_pos q]
  · rw [if_neg q, if_neg q]
    exact ha j (by omega)
section
variable {T N : xT} {R : xR} {I : xI} {c s m n nf many : Nat} {A B W : Nat → Nat}
theorem c_fit (hC : CSh c s T N R) (hS : StSh s T N R) (hs : s = c + 2) (hG : GrC I s n A B W) (hP : GrP n A B W) (hnf : 70 < nf) {lane v : Nat} (hl : lane < n) (hm : many ≤ 10) (hv : v < many) {h : Nat → Int32} {col : Nat → Nat} (ha : arN lane h col) (hc : ∀ i, i < lane → col i < many)
    (rc : xT → xT → xI → xR → Nat → Int32 → Int32 → Option (Int32 × xI)) (kk : xI → Nat → Int32 → Int32 → Int32 → Option (Int32 × xI)) :
    fX0_colours_b26 nf rc kk T N R nf (sI I (c + 37) h) c (ii lane) (ii many) (ii v) (ii 1) (ii 0) = if fit A B col lane v = true then (b2 (rc T N (sI I (c + 37) (upd h lane (ii v))) R c (ii (lane + 1)) (ii many)) fun r I8 => if r = ii 0 then kk I8 c (ii lane) (ii many) (ii (v + 1)) else some (ii 1, I8)) else kk (sI I (c + 37) h) c (ii lane) (ii many) (ii (v + 1)) := by
  have hn := hP.1
  have hG' := GrC_s hG (a := c + 37) (by omega) h
  refine loop0 (fun q b l => fX0_colours_b26 nf rc kk T N R q (sI I (c + 37) h) c (ii lane) (ii many) (ii v) (bi b) (ii l)) (fitS A B col lane v) lane (fun b => if b = true then (b2 (rc T N (sI I (c + 37) (upd h lane (ii v))) R c (ii (lane + 1)) (ii many)) fun r I8 => if r = ii 0 then kk I8 c (ii lane) (ii many) (ii (v + 1)) else some (ii 1, I8)) else kk (sI I (c + 37) h) c (ii lane) (ii many) (ii (v + 1))) ?_ ?_ (by omega) true
  · intro q b l hl'
    show fX0_colours_b26 nf rc kk T N R (q + 1) (sI I (c + 37) h) c (ii lane) (ii many) (ii v) (bi b) (ii l) = fX0_colours_b26 nf rc kk T N R q (sI I (c + 37) h) c (ii lane) (ii many) (ii v) (bi (fitS A B col lane v l b)) (ii (l + 1))
    rw [fX0_colours_b26]
    have e := ha l hl'
    have hb := hc l hl'
    unfold fitS
    by_cases q1 : col l = v
    · simp (disch := omega) only [↓nm_v, ↓tg, ↓rA, ↓chk_if, ↓reduceIte, inb_ii, ii_nat, ii_add, and_self, bi_zb, if_bi, if_bi1, ii_leT, ii_leF, ii_ltT, ii_ltF, ii_eqF, ii_m1F, ↓cb_2 hC, ↓cb_1 hC, ↓cb_3 hC, ↓cb_4 hC, ↓cb_5 hC, ↓cb_6 hC, ↓cb_7 hC, ↓cb_10 hC, ↓cb_17 hC, ↓cb_18 hC, ↓cb_19 hC, ↓cb_20 hC, ↓cb_21 hC, ↓cb_22 hC, ↓cb_23 hC, ↓cb_8 hC, ↓cb_9 hC, ↓cb_24 hC, ↓cb_16 hC, ↓cb29_0 hC, ↓cb29_1 hC, ↓sb_0 hS, ↓sb1_0 hS, ↓sb1_1 hS, ↓sb1_2 hS, ↓sb_1 hS, ↓sb_2 hS, ↓sb_3 hS, ↓sb_4 hS, ↓sb_5 hS, ↓sb_6 hS, ↓sb_7 hS, hC, hS, sI_at, e, q1, ↓bn_of (c_meet hC hS hG' hP (show l < n by omega) hl), bi_and1, bi_and0]
      cases mt A B l lane <;> cases b <;> simp
    · simp (disch := omega) only [↓nm_v, ↓tg, ↓rA, ↓chk_if, ↓reduceIte, inb_ii, ii_nat, ii_add, and_self, bi_zb, if_bi, if_bi1, ii_leT, ii_leF, ii_ltT, ii_ltF, ii_eqF, ii_m1F, ↓cb_2 hC, ↓cb_1 hC, ↓cb_3 hC, ↓cb_4 hC, ↓cb_5 hC, ↓cb_6 hC, ↓cb_7 hC, ↓cb_10 hC, ↓cb_17 hC, ↓cb_18 hC, ↓cb_19 hC, ↓cb_20 hC, ↓cb_21 hC, ↓cb_22 hC, ↓cb_23 hC, ↓cb_8 hC, ↓cb_9 hC, ↓cb_24 hC, ↓cb_16 hC, ↓cb29_0 hC, ↓cb29_1 hC, ↓sb_0 hS, ↓sb1_0 hS, ↓sb1_1 hS, ↓sb1_2 hS, ↓sb_1 hS, ↓sb_2 hS, ↓sb_3 hS, ↓sb_4 hS, ↓sb_5 hS, ↓sb_6 hS, ↓sb_7 hS, hC, hS, sI_at, e, bi_and1, bi_and0]
      simp [q1]
  · intro q b
    show fX0_colours_b26 nf rc kk T N R (q + 1) (sI I (c + 37) h) c (ii lane) (ii many) (ii v) (bi b) (ii lane) = _
    rw [fX0_colours_b26]
    simp (disch := omega) only [↓nm_v, ↓tg, ↓rA, ↓chk_if, ↓reduceIte, inb_ii, ii_nat, ii_add, and_self, bi_zb, if_bi, if_bi1, ii_leT, ii_leF, ii_ltT, ii_ltF, ii_eqF, ii_m1F, ↓cb_2 hC, ↓cb_1 hC, ↓cb_3 hC, ↓cb_4 hC, ↓cb_5 hC, ↓cb_6 hC, ↓cb_7 hC, ↓cb_10 hC, ↓cb_17 hC, ↓cb_18 hC, ↓cb_19 hC, ↓cb_20 hC, ↓cb_21 hC, ↓cb_22 hC, ↓cb_23 hC, ↓cb_8 hC, ↓cb_9 hC, ↓cb_24 hC, ↓cb_16 hC, ↓cb29_0 hC, ↓cb29_1 hC, ↓sb_0 hS, ↓sb1_0 hS, ↓sb1_1 hS, ↓sb1_2 hS, ↓sb_1 hS, ↓sb_2 hS, ↓sb_3 hS, ↓sb_4 hS, ↓sb_5 hS, ↓sb_6 hS, ↓sb_7 hS, hC, hS, uI_sI]
theorem c_colours (hC : CSh c s T N R) (hS : StSh s T N R) (hs : s = c + 2) (hG : GrC I s n A B W) (hP : GrP n A B W) (hnf : 70 < nf) (hm : many ≤ 10) : ∀ (e d lane : Nat) (h : Nat → Int32) (col : Nat → Nat), lane + e = n → e < d → arN lane h col → Qc A B lane many col →
    ∃ r h', fX0_colours nf d T N (sI I (c + 37) h) R c (ii lane) (ii many) = some (bi r, sI I (c + 37) h') ∧ ((r = true ∧ ∃ c', leastC (Qc A B n many) n lane col c' ∧ arN n h' c') ∨ (r = false ∧ (∀ c', Qc A B n many c' → ¬ ∀ i, i < lane → c' i = col i) ∧ arN lane h' col)) := by
  have hn := hP.1
  intro e
  induction e with
  | zero =>
    intro d lane h col hl hd ha hQ
    obtain ⟨d, rfl⟩ : ∃ k, d = k + 1 := ⟨d - 1, by omega⟩
    have : lane = n := by omega
    subst this
    refine ⟨true, h, ?_, Or.inl ⟨rfl, col, ⟨hQ, fun _ _ => rfl, ?_⟩, ha⟩⟩
    · rw [fX0_colours, fX0_colours_E]
      simp (disch := omega) only [↓nm_v, ↓tg, ↓rA, ↓chk_if, ↓reduceIte, inb_ii, ii_nat, ii_add, and_self, bi_zb, if_bi, if_bi1, ii_leT, ii_leF, ii_ltT, ii_ltF, ii_eqF, ii_m1F, ↓cb_2 hC, ↓cb_1 hC, ↓cb_3 hC, ↓cb_4 hC, ↓cb_5 hC, ↓cb_6 hC, ↓cb_7 hC, ↓cb_10 hC, ↓cb_17 hC, ↓cb_18 hC, ↓cb_19 hC, ↓cb_20 hC, ↓cb_21 hC, ↓cb_22 hC, ↓cb_23 hC, ↓cb_8 hC, ↓cb_9 hC, ↓cb_24 hC, ↓cb_16 hC, ↓cb29_0 hC, ↓cb29_1 hC, ↓sb_0 hS, ↓sb1_0 hS, ↓sb1_1 hS, ↓sb1_2 hS, ↓sb_1 hS, ↓sb_2 hS, ↓sb_3 hS, ↓sb_4 hS, ↓sb_5 hS, ↓sb_6 hS, ↓sb_7 hS, hC, hS, sI_ne, hG, bi_t]
    · rintro c' _ h2 ⟨k, hk, _, h3⟩
      rw [h2 k hk] at h3
      omega
  | succ e ih =>
    intro d lane h col hl hd ha hQ
    obtain ⟨d, rfl⟩ : ∃ k, d = k + 1 := ⟨d - 1, by omega⟩
    have hln : lane < n := by omega
    have inner : ∀ (w v k : Nat) (h : Nat → Int32), v + w = many → w < k → arN lane h col → (∀ c', Qc A B n many c' → (∀ i, i < lane → c' i = col i) → ¬ c' lane < v) →
        ∃ r h', fX0_colours_b15 nf (fX0_colours nf d) T N R k (sI I (c + 37) h) c (ii lane) (ii many) (ii v) = some (bi r, sI I (c + 37) h') ∧ ((r = true ∧ ∃ c', leastC (Qc A B n many) n lane col c' ∧ arN n h' c') ∨ (r = false ∧ (∀ c', Qc A B n many c' → ¬ ∀ i, i < lane → c' i = col i) ∧ arN lane h' col)) := by
      intro w
      induction w with
      | zero =>
        intro v k h hv hk ha hno
        obtain ⟨k, rfl⟩ : ∃ k', k = k' + 1 := ⟨k - 1, by omega⟩
        have : v = many := by omega
        subst this
        refine ⟨false, h, ?_, Or.inr ⟨rfl, fun c' h1 h2 => hno c' h1 h2 (h1 lane hln).1, ha⟩⟩
        rw [fX0_colours_b15]
        simp (disch := omega) only [↓nm_v, ↓tg, ↓rA, ↓chk_if, ↓reduceIte, inb_ii, ii_nat, ii_add, and_self, bi_zb, if_bi, if_bi1, ii_leT, ii_leF, ii_ltT, ii_ltF, ii_eqF, ii_m1F, ↓cb_2 hC, ↓cb_1 hC, ↓cb_3 hC, ↓cb_4 hC, ↓cb_5 hC, ↓cb_6 hC, ↓cb_7 hC, ↓cb_10 hC, ↓cb_17 hC, ↓cb_18 hC, ↓cb_19 hC, ↓cb_20 hC, ↓cb_21 hC, ↓cb_22 hC, ↓cb_23 hC, ↓cb_8 hC, ↓cb_9 hC, ↓cb_24 hC, ↓cb_16 hC, ↓cb29_0 hC, ↓cb29_1 hC, ↓sb_0 hS, ↓sb1_0 hS, ↓sb1_1 hS, ↓sb1_2 hS, ↓sb_1 hS, ↓sb_2 hS, ↓sb_3 hS, ↓sb_4 hS, ↓sb_5 hS, ↓sb_6 hS, ↓sb_7 hS, hC, hS, bi_f]
      | succ w ihw =>
        intro v k h hv hk ha hno
        obtain ⟨k, rfl⟩ : ∃ k', k = k' + 1 := ⟨k - 1, by omega⟩
        have hf := c_fit (v := v) hC hS hs hG hP hnf hln hm (by omega) ha (fun i hi => (hQ i hi).1) (fX0_colours nf d) (fX0_colours_b15 nf (fX0_colours nf d) T N R k)
        rw [fX0_colours_b15]
        simp (disch := omega) only [↓nm_v, ↓tg, ↓rA, ↓chk_if, ↓reduceIte, inb_ii, ii_nat, ii_add, and_self, bi_zb, if_bi, if_bi1, ii_leT, ii_leF, ii_ltT, ii_ltF, ii_eqF, ii_m1F, ↓cb_2 hC, ↓cb_1 hC, ↓cb_3 hC, ↓cb_4 hC, ↓cb_5 hC, ↓cb_6 hC, ↓cb_7 hC, ↓cb_10 hC, ↓cb_17 hC, ↓cb_18 hC, ↓cb_19 hC, ↓cb_20 hC, ↓cb_21 hC, ↓cb_22 hC, ↓cb_23 hC, ↓cb_8 hC, ↓cb_9 hC, ↓cb_24 hC, ↓cb_16 hC, ↓cb29_0 hC, ↓cb29_1 hC, ↓sb_0 hS, ↓sb1_0 hS, ↓sb1_1 hS, ↓sb1_2 hS, ↓sb_1 hS, ↓sb_2 hS, ↓sb_3 hS, ↓sb_4 hS, ↓sb_5 hS, ↓sb_6 hS, ↓sb_7 hS, hC, hS]
        rw [hf]
        cases q : fit A B col lane v with
        | false =>
          rw [if_neg (by decide)]
          exact ihw (v + 1) k h (by omega) (by omega) ha (col_none hno (fit_no hln q))
        | true =>
          rw [if_pos rfl]
          obtain ⟨r, h', e1, h1⟩ := ih d (lane + 1) (upd h lane (ii v)) (updN col lane v) (by omega) (by omega) (arN_push ha v) (Qc_push hQ (by omega) q)
          rw [e1, b2_e]
          rcases h1 with ⟨rfl, c', h2, h3⟩ | ⟨rfl, h2, h3⟩
          · refine ⟨true, h', ?_, Or.inl ⟨rfl, c', col_true hln hno h2, h3⟩⟩
            rw [if_neg (by decide)]
            rfl
          · rw [if_pos (by decide)]
            refine ihw (v + 1) k h' (by omega) (by omega) (fun j hj => ?_) (col_none hno (col_back h2))
            have := h3 j (by omega)
            rw [updN_at, if_neg (by omega)] at this
            exact this
    obtain ⟨r, h', e1, h1⟩ := inner many 0 nf h (by omega) (by omega) ha (fun c' _ _ h => by omega)
    refine ⟨r, h', ?_, h1⟩
    rw [fX0_colours, fX0_colours_E]
    simp (disch := omega) only [↓nm_v, ↓tg, ↓rA, ↓chk_if, ↓reduceIte, inb_ii, ii_nat, ii_add, and_self, bi_zb, if_bi, if_bi1, ii_leT, ii_leF, ii_ltT, ii_ltF, ii_eqF, ii_m1F, ↓cb_2 hC, ↓cb_1 hC, ↓cb_3 hC, ↓cb_4 hC, ↓cb_5 hC, ↓cb_6 hC, ↓cb_7 hC, ↓cb_10 hC, ↓cb_17 hC, ↓cb_18 hC, ↓cb_19 hC, ↓cb_20 hC, ↓cb_21 hC, ↓cb_22 hC, ↓cb_23 hC, ↓cb_8 hC, ↓cb_9 hC, ↓cb_24 hC, ↓cb_16 hC, ↓cb29_0 hC, ↓cb29_1 hC, ↓sb_0 hS, ↓sb1_0 hS, ↓sb1_1 hS, ↓sb1_2 hS, ↓sb_1 hS, ↓sb_2 hS, ↓sb_3 hS, ↓sb_4 hS, ↓sb_5 hS, ↓sb_6 hS, ↓sb_7 hS, hC, hS, sI_ne, hG]
    exact e1
/-! the model -/
theorem m_nA (hM : MSh m T N R) (hnf : 70 < nf) {k : Nat} (hk : k ≤ 10) {col : Nat → Nat} (ha : arN k (I (m + 25)) col) (hc : ∀ i, i < k → col i < 100) : fX5_nameAhead nf T N I R m (ii k) = some (ii (nA col k)) := by
  unfold fX5_nameAhead
  refine loop_up (fun q x l => fX5_nameAhead_b4 nf T N I R q m (ii k) (ii x) (ii l)) (nAS col) (fun _ x => x ≤ 100) k (fun x => some (ii x)) ?_ ?_ k 0 0 nf (by omega) (by omega) (by omega)
  · intro q x l hl hx
    have e := ha l hl
    have hb := hc l hl
    refine ⟨?_, ?_⟩
    · show fX5_nameAhead_b4 nf T N I R (q + 1) m (ii k) (ii x) (ii l) = fX5_nameAhead_b4 nf T N I R q m (ii k) (ii (nAS col l x)) (ii (l + 1))
      rw [fX5_nameAhead_b4]
      unfold nAS
      by_cases h : x ≤ col l
      · simp (disch := omega) only [↓nm_v, ↓tg, ↓rA, ↓chk_if, ↓reduceIte, inb_ii, ii_nat, ii_add, and_self, bi_zb, if_bi, if_bi1, ii_leT, ii_leF, ii_ltT, ii_ltF, ii_eqF, ii_m1F, ↓mb_2 hM, ↓mb_3 hM, ↓mb_4 hM, ↓mb_5 hM, ↓mb_6 hM, ↓mb_7 hM, ↓mb_9 hM, ↓mb_10 hM, ↓mb_12 hM, ↓mb_22 hM, ↓mb_24 hM, ↓mb_25 hM, ↓mb_27 hM, ↓mb_28 hM, ↓mb_31 hM, ↓mb_32 hM, ↓mb_33 hM, ↓mb_35 hM, ↓mb_36 hM, ↓mb_37 hM, ↓mb_41 hM, ↓mb_42 hM, ↓mb_43 hM, ↓mb_44 hM, ↓mb_45 hM, ↓mb_46 hM, ↓mb_47 hM, ↓mb_48 hM, ↓mb_49 hM, ↓mb_55 hM, hM, e, h]
      · simp (disch := omega) only [↓nm_v, ↓tg, ↓rA, ↓chk_if, ↓reduceIte, inb_ii, ii_nat, ii_add, and_self, bi_zb, if_bi, if_bi1, ii_leT, ii_leF, ii_ltT, ii_ltF, ii_eqF, ii_m1F, ↓mb_2 hM, ↓mb_3 hM, ↓mb_4 hM, ↓mb_5 hM, ↓mb_6 hM, ↓mb_7 hM, ↓mb_9 hM, ↓mb_10 hM, ↓mb_12 hM, ↓mb_22 hM, ↓mb_24 hM, ↓mb_25 hM, ↓mb_27 hM, ↓mb_28 hM, ↓mb_31 hM, ↓mb_32 hM, ↓mb_33 hM, ↓mb_35 hM, ↓mb_36 hM, ↓mb_37 hM, ↓mb_41 hM, ↓mb_42 hM, ↓mb_43 hM, ↓mb_44 hM, ↓mb_45 hM, ↓mb_46 hM, ↓mb_47 hM, ↓mb_48 hM, ↓mb_49 hM, ↓mb_55 hM, hM, e, h]
    · show nAS col l x ≤ 100
      unfold nAS
      split <;> omega
  · intro q x _
    show fX5_nameAhead_b4 nf T N I R (q + 1) m (ii k) (ii x) (ii k) = _
    rw [fX5_nameAhead_b4]
    simp (disch := omega) only [↓nm_v, ↓tg, ↓rA, ↓chk_if, ↓reduceIte, inb_ii, ii_nat, ii_add, and_self, bi_zb, if_bi, if_bi1, ii_leT, ii_leF, ii_ltT, ii_ltF, ii_eqF, ii_m1F, ↓mb_2 hM, ↓mb_3 hM, ↓mb_4 hM, ↓mb_5 hM, ↓mb_6 hM, ↓mb_7 hM, ↓mb_9 hM, ↓mb_10 hM, ↓mb_12 hM, ↓mb_22 hM, ↓mb_24 hM, ↓mb_25 hM, ↓mb_27 hM, ↓mb_28 hM, ↓mb_31 hM, ↓mb_32 hM, ↓mb_33 hM, ↓mb_35 hM, ↓mb_36 hM, ↓mb_37 hM, ↓mb_41 hM, ↓mb_42 hM, ↓mb_43 hM, ↓mb_44 hM, ↓mb_45 hM, ↓mb_46 hM, ↓mb_47 hM, ↓mb_48 hM, ↓mb_49 hM, ↓mb_55 hM, hM]
theorem m_fit (hM : MSh m T N R) (hG : GrM I m n A B W) (hP : GrP n A B W) (hnf : 70 < nf) {k v : Nat} (hk : k < n) {col : Nat → Nat} (ha : arN k (I (m + 25)) col) (hv : I (m + 25) k = ii v) (hc : ∀ i, i < k → col i < 100) (hv2 : v < 100) : fX5_fitsName nf T N I R m (ii k) = some (bi (fit A B col k v)) := by
  have hn := hP.1
  unfold fX5_fitsName
  refine loop0 (fun q b l => fX5_fitsName_b4 nf T N I R q m (ii k) (bi b) (ii l)) (fitS A B col k v) k (fun b => some (bi b)) ?_ ?_ (by omega) true
  · intro q b l hl
    have e := ha l hl
    have hb := hc l hl
    show fX5_fitsName_b4 nf T N I R (q + 1) m (ii k) (bi b) (ii l) = fX5_fitsName_b4 nf T N I R q m (ii k) (bi (fitS A B col k v l b)) (ii (l + 1))
    rw [fX5_fitsName_b4]
    unfold fitS
    cases b with
    | false => simp (disch := omega) only [↓nm_v, ↓tg, ↓rA, ↓chk_if, ↓reduceIte, inb_ii, ii_nat, ii_add, and_self, bi_zb, if_bi, if_bi1, ii_leT, ii_leF, ii_ltT, ii_ltF, ii_eqF, ii_m1F, ↓mb_2 hM, ↓mb_3 hM, ↓mb_4 hM, ↓mb_5 hM, ↓mb_6 hM, ↓mb_7 hM, ↓mb_9 hM, ↓mb_10 hM, ↓mb_12 hM, ↓mb_22 hM, ↓mb_24 hM, ↓mb_25 hM, ↓mb_27 hM, ↓mb_28 hM, ↓mb_31 hM, ↓mb_32 hM, ↓mb_33 hM, ↓mb_35 hM, ↓mb_36 hM, ↓mb_37 hM, ↓mb_41 hM, ↓mb_42 hM, ↓mb_43 hM, ↓mb_44 hM, ↓mb_45 hM, ↓mb_46 hM, ↓mb_47 hM, ↓mb_48 hM, ↓mb_49 hM, ↓mb_55 hM, hM, bi_f]; rfl
    | true =>
      by_cases q1 : col l = v
      · simp (disch := omega) only [↓nm_v, ↓tg, ↓rA, ↓chk_if, ↓reduceIte, inb_ii, ii_nat, ii_add, and_self, bi_zb, if_bi, if_bi1, ii_leT, ii_leF, ii_ltT, ii_ltF, ii_eqF, ii_m1F, ↓mb_2 hM, ↓mb_3 hM, ↓mb_4 hM, ↓mb_5 hM, ↓mb_6 hM, ↓mb_7 hM, ↓mb_9 hM, ↓mb_10 hM, ↓mb_12 hM, ↓mb_22 hM, ↓mb_24 hM, ↓mb_25 hM, ↓mb_27 hM, ↓mb_28 hM, ↓mb_31 hM, ↓mb_32 hM, ↓mb_33 hM, ↓mb_35 hM, ↓mb_36 hM, ↓mb_37 hM, ↓mb_41 hM, ↓mb_42 hM, ↓mb_43 hM, ↓mb_44 hM, ↓mb_45 hM, ↓mb_46 hM, ↓mb_47 hM, ↓mb_48 hM, ↓mb_49 hM, ↓mb_55 hM, hM, e, hv, q1, ↓bn_of (m_meet hM hG hP (show l < n by omega) hk)]
        cases mt A B l k <;> simp [bi_t, bi_f]
      · simp (disch := omega) only [↓nm_v, ↓tg, ↓rA, ↓chk_if, ↓reduceIte, inb_ii, ii_nat, ii_add, and_self, bi_zb, if_bi, if_bi1, ii_leT, ii_leF, ii_ltT, ii_ltF, ii_eqF, ii_m1F, ↓mb_2 hM, ↓mb_3 hM, ↓mb_4 hM, ↓mb_5 hM, ↓mb_6 hM, ↓mb_7 hM, ↓mb_9 hM, ↓mb_10 hM, ↓mb_12 hM, ↓mb_22 hM, ↓mb_24 hM, ↓mb_25 hM, ↓mb_27 hM, ↓mb_28 hM, ↓mb_31 hM, ↓mb_32 hM, ↓mb_33 hM, ↓mb_35 hM, ↓mb_36 hM, ↓mb_37 hM, ↓mb_41 hM, ↓mb_42 hM, ↓mb_43 hM, ↓mb_44 hM, ↓mb_45 hM, ↓mb_46 hM, ↓mb_47 hM, ↓mb_48 hM, ↓mb_49 hM, ↓mb_55 hM, hM, e, hv]
        simp [q1, bi_t]
  · intro q b
    show fX5_fitsName_b4 nf T N I R (q + 1) m (ii k) (bi b) (ii k) = _
    rw [fX5_fitsName_b4]
    simp (disch := omega) only [↓nm_v, ↓tg, ↓rA, ↓chk_if, ↓reduceIte, inb_ii, ii_nat, ii_add, and_self, bi_zb, if_bi, if_bi1, ii_leT, ii_leF, ii_ltT, ii_ltF, ii_eqF, ii_m1F, ↓mb_2 hM, ↓mb_3 hM, ↓mb_4 hM, ↓mb_5 hM, ↓mb_6 hM, ↓mb_7 hM, ↓mb_9 hM, ↓mb_10 hM, ↓mb_12 hM, ↓mb_22 hM, ↓mb_24 hM, ↓mb_25 hM, ↓mb_27 hM, ↓mb_28 hM, ↓mb_31 hM, ↓mb_32 hM, ↓mb_33 hM, ↓mb_35 hM, ↓mb_36 hM, ↓mb_37 hM, ↓mb_41 hM, ↓mb_42 hM, ↓mb_43 hM, ↓mb_44 hM, ↓mb_45 hM, ↓mb_46 hM, ↓mb_47 hM, ↓mb_48 hM, ↓mb_49 hM, ↓mb_55 hM, hM]
end
