/-! PLAIN LAND, 46: the model settles -/
/-- ps lies on the pile, its first on top -/
def PileT (pf pa : Nat → Int32) : List (Nat × Nat) → Nat → Prop
  | [], _ => True
  | (o, a) :: r, pl => ∃ q, pl = q + 1 ∧ pf q = ii o ∧ pa q = ii a ∧ o < 31 ∧ a < 400 ∧ PileT pf pa r q
def BaseT (pf : Nat → Int32) (pl least : Nat) : Prop := pl = 0 ∨ ∃ q o, pl = q + 1 ∧ pf q = ii o ∧ o < 100 ∧ bnd o < least
/-- no place is laid twice -/
def PD : List (Nat × Nat) → Prop
  | [] => True
  | (o, a) :: r => (29 ≤ o → ∀ o', (o', a) ∈ r → o' < 29) ∧ PD r
theorem PileT_app {pf pa : Nat → Int32} : ∀ (p q : List (Nat × Nat)) (pl : Nat), PileT pf pa p (pl + p.length) → PileT pf pa q pl → PileT pf pa (p ++ q) (pl + p.length) := by
  intro p
  induction p with
  | nil => intro q pl _ h; exact h
  | cons x p ih =>
    intro q pl h h2
    obtain ⟨o, a⟩ := x
    obtain ⟨z, h3, h4, h5, h6, h7, h8⟩ := h
    simp only [List.length_cons] at h3 ⊢
    obtain rfl : z = pl + p.length := by omega
    exact ⟨_, h3, h4, h5, h6, h7, ih q pl h8 h2⟩
theorem PileT_congr {pf pa pf' pa' : Nat → Int32} : ∀ (p : List (Nat × Nat)) (pl : Nat), PileT pf pa p pl → (∀ q, q < pl → pf' q = pf q ∧ pa' q = pa q) → PileT pf' pa' p pl := by
  intro p
  induction p with
  | nil => intro pl _ _; trivial
  | cons x p ih =>
    intro pl h h2
    obtain ⟨o, a⟩ := x
    obtain ⟨z, rfl, h4, h5, h6, h7, h8⟩ := h
    obtain ⟨e1, e2⟩ := h2 z (by omega)
    exact ⟨z, rfl, e1.trans h4, e2.trans h5, h6, h7, ih z h8 (fun q hq => h2 q (by omega))⟩
theorem PD_snoc : ∀ (p : List (Nat × Nat)) (o a : Nat), PD p → (29 ≤ o → ∀ o', (o', a) ∈ p → o' < 29) → PD (p ++ [(o, a)]) := by
  intro p
  induction p with
  | nil => intro o a _ _; exact ⟨fun _ o' m => (by cases m), trivial⟩
  | cons x p ih =>
    intro o a h h2
    obtain ⟨o1, a1⟩ := x
    obtain ⟨h3, h4⟩ := h
    refine ⟨fun h5 o' m => ?_, ih o a h4 (fun h5 o' m => h2 h5 o' (by simp [m]))⟩
    rcases List.mem_append.mp m with m | m
    · exact h3 h5 o' m
    · simp at m
      obtain ⟨rfl, rfl⟩ := m
      by_cases q : 29 ≤ o'
      · exact absurd (h2 q o1 (by simp)) (by omega)
      · omega
theorem BaseT_up {pf : Nat → Int32} {pl l l' : Nat} (h : BaseT pf pl l) (hl : l ≤ l') : BaseT pf pl l' := by
  rcases h with h | ⟨q, o, h1, h2, h3, h4⟩
  · exact Or.inl h
  · exact Or.inr ⟨q, o, h1, h2, h3, by omega⟩
theorem BaseT_congr {pf pf' : Nat → Int32} {pl l : Nat} (h : BaseT pf pl l) (e : ∀ q, q < pl → pf' q = pf q) : BaseT pf' pl l := by
  rcases h with h | ⟨q, o, rfl, h2, h3, h4⟩
  · exact Or.inl h
  · exact Or.inr ⟨q, o, rfl, by rw [e q (by omega)]; exact h2, h3, h4⟩
theorem BaseT_push {pf : Nat → Int32} {pl l o : Nat} (ho : o < 100) (h : bnd o < l) : BaseT (upd pf pl (ii o)) (pl + 1) l := Or.inr ⟨pl, o, rfl, upd_hit _ _ _, ho, h⟩
section
variable {T N : xT} {R : xR} {I : xI} {L : xL} {m nf sz i lv dp nc pl : Nat} {b : Nat → Nat} {er : Option Nat} {op ar pf pa : Nat → Int32}
/-- one round of settling stops -/
theorem p_setStop (hM : MSh m T N R) (hpl : pl ≤ 400) {least : Nat} (hl : 1 ≤ least ∧ least < 7) (hb : BaseT pf pl least) (k : Nat) : fX5_settle_b0 nf T N R (k + 1) (MI m b sz I er i lv dp nc pl op ar pf pa) m (ii least) = some (MI m b sz I er i lv dp nc pl op ar pf pa) := by
  rw [fX5_settle_b0]
  rcases hb with rfl | ⟨q, o, rfl, h2, h3, h4⟩
  · simp (disch := omega) only [↓nm_v, ↓tg, ↓rA, ↓chk_if, ↓reduceIte, inb_ii, ii_nat, ii_add, and_self, bi_zb, if_bi, if_bi1, ii_leT, ii_leF, ii_ltT, ii_ltF, ii_eqF, ii_m1F, ↓mb_2 hM, ↓mb_3 hM, ↓mb_4 hM, ↓mb_5 hM, ↓mb_6 hM, ↓mb_7 hM, ↓mb_9 hM, ↓mb_10 hM, ↓mb_12 hM, ↓mb_22 hM, ↓mb_24 hM, ↓mb_25 hM, ↓mb_27 hM, ↓mb_28 hM, ↓mb_31 hM, ↓mb_32 hM, ↓mb_33 hM, ↓mb_35 hM, ↓mb_36 hM, ↓mb_37 hM, ↓mb_41 hM, ↓mb_42 hM, ↓mb_43 hM, ↓mb_44 hM, ↓mb_45 hM, ↓mb_46 hM, ↓mb_47 hM, ↓mb_48 hM, ↓mb_49 hM, ↓mb_55 hM, hM, MI_f29]
  · have e : ii (q + 1) - ii 1 = ii q := by rw [ii_sub (by omega)]; rfl
    simp (disch := omega) only [↓nm_v, ↓tg, ↓rA, ↓chk_if, ↓reduceIte, inb_ii, ii_nat, ii_add, and_self, bi_zb, if_bi, if_bi1, ii_leT, ii_leF, ii_ltT, ii_ltF, ii_eqF, ii_m1F, ↓mb_2 hM, ↓mb_3 hM, ↓mb_4 hM, ↓mb_5 hM, ↓mb_6 hM, ↓mb_7 hM, ↓mb_9 hM, ↓mb_10 hM, ↓mb_12 hM, ↓mb_22 hM, ↓mb_24 hM, ↓mb_25 hM, ↓mb_27 hM, ↓mb_28 hM, ↓mb_31 hM, ↓mb_32 hM, ↓mb_33 hM, ↓mb_35 hM, ↓mb_36 hM, ↓mb_37 hM, ↓mb_41 hM, ↓mb_42 hM, ↓mb_43 hM, ↓mb_44 hM, ↓mb_45 hM, ↓mb_46 hM, ↓mb_47 hM, ↓mb_48 hM, ↓mb_49 hM, ↓mb_55 hM, hM, MI_f29, e, MI_13, h2, ↓bn_of (p_binds h3)]
/-- one round of settling goes on -/
theorem p_setGo (hM : MSh m T N R) (hpl : pl < 400) {least o a : Nat} (hl : 1 ≤ least ∧ least < 7) (h1 : pf pl = ii o) (h2 : pa pl = ii a) (ho : o < 31) (ha : a < 400) (hb : least ≤ bnd o) (hnc : nc < 400) (k : Nat) :
    fX5_settle_b0 nf T N R (k + 1) (MI m b sz I er i lv dp nc (pl + 1) op ar pf pa) m (ii least) = fX5_settle_b0 nf T N R k (if 29 ≤ o then MI m b sz I er i lv dp nc pl op (upd ar a (ii nc)) pf pa else MI m b sz I er i lv dp (nc + 1) pl (upd op nc (ii o)) (upd ar nc (ii 0)) pf pa) m (ii least) := by
  have e : ii (pl + 1) - ii 1 = ii pl := by rw [ii_sub (by omega)]; rfl
  have hbl : bnd o < 10 := by unfold bnd; repeat (first | omega | split)
  rw [fX5_settle_b0]
  by_cases q : 29 ≤ o
  · rw [if_pos q]
    by_cases q2 : o = 29
    · subst q2
      simp (disch := omega) only [↓nm_v, ↓tg, ↓rA, ↓chk_if, ↓reduceIte, inb_ii, ii_nat, ii_add, and_self, bi_zb, if_bi, if_bi1, ii_leT, ii_leF, ii_ltT, ii_ltF, ii_eqF, ii_m1F, ↓mb_2 hM, ↓mb_3 hM, ↓mb_4 hM, ↓mb_5 hM, ↓mb_6 hM, ↓mb_7 hM, ↓mb_9 hM, ↓mb_10 hM, ↓mb_12 hM, ↓mb_22 hM, ↓mb_24 hM, ↓mb_25 hM, ↓mb_27 hM, ↓mb_28 hM, ↓mb_31 hM, ↓mb_32 hM, ↓mb_33 hM, ↓mb_35 hM, ↓mb_36 hM, ↓mb_37 hM, ↓mb_41 hM, ↓mb_42 hM, ↓mb_43 hM, ↓mb_44 hM, ↓mb_45 hM, ↓mb_46 hM, ↓mb_47 hM, ↓mb_48 hM, ↓mb_49 hM, ↓mb_55 hM, hM, MI_f29, e, MI_13, h1, MI_u29, fX5_settle_b63, MI_14, h2, MI_f23, MI_u12, ↓bn_of (p_binds (show 29 < 100 by omega))]
    · obtain rfl : o = 30 := by omega
      simp (disch := omega) only [↓nm_v, ↓tg, ↓rA, ↓chk_if, ↓reduceIte, inb_ii, ii_nat, ii_add, and_self, bi_zb, if_bi, if_bi1, ii_leT, ii_leF, ii_ltT, ii_ltF, ii_eqF, ii_m1F, ↓mb_2 hM, ↓mb_3 hM, ↓mb_4 hM, ↓mb_5 hM, ↓mb_6 hM, ↓mb_7 hM, ↓mb_9 hM, ↓mb_10 hM, ↓mb_12 hM, ↓mb_22 hM, ↓mb_24 hM, ↓mb_25 hM, ↓mb_27 hM, ↓mb_28 hM, ↓mb_31 hM, ↓mb_32 hM, ↓mb_33 hM, ↓mb_35 hM, ↓mb_36 hM, ↓mb_37 hM, ↓mb_41 hM, ↓mb_42 hM, ↓mb_43 hM, ↓mb_44 hM, ↓mb_45 hM, ↓mb_46 hM, ↓mb_47 hM, ↓mb_48 hM, ↓mb_49 hM, ↓mb_55 hM, hM, MI_f29, e, MI_13, h1, MI_u29, fX5_settle_b63, MI_14, h2, MI_f23, MI_u12, ↓bn_of (p_binds (show 30 < 100 by omega))]
  · rw [if_neg q]
    simp (disch := omega) only [↓nm_v, ↓tg, ↓rA, ↓chk_if, ↓reduceIte, inb_ii, ii_nat, ii_add, and_self, bi_zb, if_bi, if_bi1, ii_leT, ii_leF, ii_ltT, ii_ltF, ii_eqF, ii_m1F, ↓mb_2 hM, ↓mb_3 hM, ↓mb_4 hM, ↓mb_5 hM, ↓mb_6 hM, ↓mb_7 hM, ↓mb_9 hM, ↓mb_10 hM, ↓mb_12 hM, ↓mb_22 hM, ↓mb_24 hM, ↓mb_25 hM, ↓mb_27 hM, ↓mb_28 hM, ↓mb_31 hM, ↓mb_32 hM, ↓mb_33 hM, ↓mb_35 hM, ↓mb_36 hM, ↓mb_37 hM, ↓mb_41 hM, ↓mb_42 hM, ↓mb_43 hM, ↓mb_44 hM, ↓mb_45 hM, ↓mb_46 hM, ↓mb_47 hM, ↓mb_48 hM, ↓mb_49 hM, ↓mb_55 hM, hM, MI_f29, e, MI_13, h1, ↓bn_of (p_binds (show o < 100 by omega)), MI_u29, ↓bn_of (p_emit (er := er) (i := i) (lv := lv) (dp := dp) (pl := pl) (op := op) (ar := ar) (pf := pf) (pa := pa) (b := b) (sz := sz) (I := I) hM hnc o 0)]
theorem nn_upd (f : Nat → Int32) (k v j : Nat) (hv : v < 2147483648) : nn (upd f k (ii v)) j = if j = k then v else nn f j := by
  unfold nn
  rw [upd_at]
  split
  · exact ii_nat hv
  · rfl
/-- all of ps is settled, no more -/
theorem p_settle (hM : MSh m T N R) {least : Nat} (hl : 1 ≤ least ∧ least < 7) : ∀ (ps : List (Nat × Nat)) (nc pl : Nat) (op ar : Nat → Int32) (k : Nat), PileT pf pa ps (pl + ps.length) → (∀ x, x ∈ ps → least ≤ bnd x.1) → BaseT pf pl least → nc + pl + ps.length ≤ 400 → ps.length < k →
    (∀ o a, (o, a) ∈ ps → 29 ≤ o → a < nc) → PD ps →
    ∃ op' ar', fX5_settle_b0 nf T N R k (MI m b sz I er i lv dp nc (pl + ps.length) op ar pf pa) m (ii least) = some (MI m b sz I er i lv dp (finN ps nc) pl op' ar' pf pa) ∧ OKc ps nc (nn op') (nn ar') ∧ (∀ j, j < nc → op' j = op j) ∧ (∀ j, j < nc → (∀ o, (o, j) ∈ ps → o < 29) → ar' j = ar j) := by
  intro ps
  induction ps with
  | nil =>
    intro nc pl op ar k _ _ hb hn hk _ _
    obtain ⟨k, rfl⟩ : ∃ z, k = z + 1 := ⟨k - 1, by omega⟩
    exact ⟨op, ar, p_setStop hM (by simp at hn; omega) hl hb k, trivial, fun _ _ => rfl, fun _ _ _ => rfl⟩
  | cons x ps ih =>
    intro nc pl op ar k hp hbn hb hn hk hpa hpd
    obtain ⟨k, rfl⟩ : ∃ z, k = z + 1 := ⟨k - 1, by omega⟩
    obtain ⟨o, a⟩ := x
    obtain ⟨q, h3, h4, h5, h6, h7, h8⟩ := hp
    obtain ⟨pd1, pd2⟩ := hpd
    simp only [List.length_cons] at h3 hn hk ⊢
    obtain rfl : q = pl + ps.length := by omega
    have hb1 := hbn (o, a) (by simp)
    rw [show pl + (ps.length + 1) = pl + ps.length + 1 by omega, p_setGo hM (by omega) hl h4 h5 h6 h7 hb1 (by omega) k]
    by_cases c : 29 ≤ o
    · rw [if_pos c]
      have han := hpa o a (by simp) c
      obtain ⟨op', ar', e1, e2, e3, e4⟩ := ih nc pl op (upd ar a (ii nc)) k h8 (fun x hx => hbn x (by simp [hx])) hb (by omega) (by omega) (fun o' a' m' => hpa o' a' (by simp [m'])) pd2
      refine ⟨op', ar', ?_, ?_, e3, fun j hj hne => ?_⟩
      · rw [e1, finN_c, if_pos c]
      · rw [OKc_c, if_pos c]
        refine ⟨?_, e2⟩
        unfold nn
        rw [e4 a han (pd1 c), upd_hit, ii_nat (by omega)]
      · have hja : j ≠ a := fun h => by
          have := hne o (by rw [h]; simp)
          omega
        rw [e4 j hj (fun o' m' => hne o' (by simp [m'])), upd_ne hja]
    · rw [if_neg c]
      obtain ⟨op', ar', e1, e2, e3, e4⟩ := ih (nc + 1) pl (upd op nc (ii o)) (upd ar nc (ii 0)) k h8 (fun x hx => hbn x (by simp [hx])) hb (by omega) (by omega) (fun o' a' m' q' => by have := hpa o' a' (by simp [m']) q'; omega) pd2
      refine ⟨op', ar', ?_, ?_, fun j hj => ?_, fun j hj hne => ?_⟩
      · rw [e1, finN_c, if_neg c]
      · rw [OKc_c, if_neg c]
        refine ⟨?_, e2⟩
        unfold nn
        rw [e3 nc (by omega), upd_hit, ii_nat (by omega)]
      · rw [e3 j (by omega), upd_ne (by omega)]
      · rw [e4 j (by omega) (fun o' m' => hne o' (by simp [m'])), upd_ne (by omega)]
/-- settling always comes to an end -/
theorem p_settleW (hM : MSh m T N R) {least : Nat} (hl : 1 ≤ least ∧ least < 7) : ∀ (pl nc : Nat) (op ar : Nat → Int32) (k : Nat), (∀ q, q < pl → ∃ o a, pf q = ii o ∧ pa q = ii a ∧ o < 100 ∧ a < 400) → nc + pl ≤ 400 → pl < k →
    ∃ nc' pl' op' ar', fX5_settle_b0 nf T N R k (MI m b sz I er i lv dp nc pl op ar pf pa) m (ii least) = some (MI m b sz I er i lv dp nc' pl' op' ar' pf pa) ∧ nc' ≤ 400 := by
  intro pl
  induction pl with
  | zero =>
    intro nc op ar k _ hn hk
    obtain ⟨k, rfl⟩ : ∃ z, k = z + 1 := ⟨k - 1, by omega⟩
    exact ⟨nc, 0, op, ar, p_setStop hM (by omega) hl (Or.inl rfl) k, by omega⟩
  | succ pl ih =>
    intro nc op ar k hp hn hk
    obtain ⟨k, rfl⟩ : ∃ z, k = z + 1 := ⟨k - 1, by omega⟩
    obtain ⟨o, a, h1, h2, h3, h4⟩ := hp pl (by omega)
    by_cases c : least ≤ bnd o
    · have ho : o < 31 := by
        by_cases q : 31 ≤ o
        · have : bnd o = 0 := by unfold bnd; rw [if_pos q]
          omega
        · omega
      rw [p_setGo hM (by omega) hl h1 h2 ho h4 c (by omega) k]
      by_cases c2 : 29 ≤ o
      · rw [if_pos c2]
        exact ih nc op _ k (fun q hq => hp q (by omega)) (by omega) (by omega)
      · rw [if_neg c2]
        exact ih (nc + 1) _ _ k (fun q hq => hp q (by omega)) (by omega) (by omega)
    · exact ⟨nc, pl + 1, op, ar, p_setStop hM (by omega) hl (Or.inr ⟨pl, o, rfl, h1, h3, by omega⟩) k, by omega⟩
end
