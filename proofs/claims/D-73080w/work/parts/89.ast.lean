/-! PLAIN LAND, 39: sums, tests, clauses, laws of the component as they lie: what they tell -/
def AgF (lo hi : Nat) (T0 N0 : xT) (I0 : xI) (R0 : xR) (T N : xT) (I : xI) (R : xR) : Prop := ∀ a, lo ≤ a → a < hi → T a = T0 a ∧ N a = N0 a ∧ I a = I0 a ∧ R a = R0 a
abbrev SetV (T N : xT) (R : xR) (st b va : Nat) : Prop := T st = 4 ∧ R st 0 = some b ∧ T b = 5 ∧ R st 1 = some va ∧ T va = 103 ∧ N va = 19
def exR (o : Option Int64) (b : Nat) : Nat ⊕ Int64 := match o with
  | none => .inl b
  | some x => .inr x
def exB (o : Option Bool) (b : Nat) : Nat ⊕ Int32 := match o with
  | none => .inl b
  | some x => .inr (bi x)
/-- only the first nv values count; what is told is no more than 10^9 -/
def okD (nv : Nat) (d : Den) : Prop := (∀ v v', (∀ i, i < nv → v i = v' i) → d v = d v') ∧ ∀ v, (∀ i, i < nv → -2000 ≤ (v i).toInt ∧ (v i).toInt ≤ 2000) → ∀ x, d v = some x → -1000000000 ≤ x.toInt ∧ x.toInt ≤ 1000000000
def okT (nv : Nat) (d : TDen) : Prop := ∀ v v', (∀ i, i < nv → v i = v' i) → d v = d v'
def twoD (o : Nat) (a b : Den) : Den := fun v => (a v).bind fun x => (b v).bind fun y => rkB o x y
def cmpV (o : Nat) (x y : Int64) : Bool := if o = 25 then decide (x < y) else if o = 26 then decide (y < x) else decide (x = y)
def cmpD (o : Nat) (a b : Den) : TDen := fun v => (a v).bind fun x => (b v).bind fun y => some (cmpV o x y)
def notD (a : TDen) : TDen := fun v => (a v).map Bool.not
def jnD (all : Bool) (a b : TDen) : TDen := fun v => (a v).bind fun x => if x = all then b v else some x
def sevD (all : Bool) (ds : Nat → TDen) : Nat → TDen
  | 0 => ds 0
  | j + 1 => jnD all (sevD all ds j) (ds (j + 1))
theorem big_f {v : Int64} (h : ¬ big v = true) : -1000000000 ≤ v.toInt ∧ v.toInt ≤ 1000000000 := by
  have e1 : (-1000000000 : Int64).toInt = -1000000000 := by decide
  have e2 : (jj 1000000000).toInt = 1000000000 := by decide
  unfold big at h
  simp only [Bool.or_eq_true, decide_eq_true_eq, ltL_int, e1, e2] at h
  omega
theorem okD_two {nv o : Nat} {a b : Den} (ha : okD nv a) (hb : okD nv b) : okD nv (twoD o a b) := by
  refine ⟨fun v v' h => by unfold twoD; rw [ha.1 v v' h, hb.1 v v' h], fun v _ x hx => ?_⟩
  unfold twoD at hx
  obtain ⟨p, _, hx⟩ := Option.bind_eq_some_iff.mp hx
  obtain ⟨q, _, hx⟩ := Option.bind_eq_some_iff.mp hx
  unfold rkB at hx
  split at hx
  · cases hx
  · split at hx
    · cases hx
    · cases hx
      exact big_f (by assumption)
theorem okD_num {nv n : Nat} (h : n ≤ 1000) : okD nv fun _ => some (jj n) := by
  refine ⟨fun _ _ _ => rfl, fun v _ x hx => ?_⟩
  cases hx
  rw [jj_toInt (by omega)]
  omega
theorem okD_val {nv k : Nat} (h : k < nv) : okD nv fun v => some (v k) := by
  refine ⟨fun v v' e => by show some (v k) = some (v' k); rw [e k h], fun v hv x hx => ?_⟩
  cases hx
  have := hv k h
  omega
theorem okT_cmp {nv o : Nat} {a b : Den} (ha : okD nv a) (hb : okD nv b) : okT nv (cmpD o a b) := fun v v' h => by unfold cmpD; rw [ha.1 v v' h, hb.1 v v' h]
theorem okT_not {nv : Nat} {a : TDen} (ha : okT nv a) : okT nv (notD a) := fun v v' h => by unfold notD; rw [ha v v' h]
theorem okT_jn {nv : Nat} {all : Bool} {a b : TDen} (ha : okT nv a) (hb : okT nv b) : okT nv (jnD all a b) := fun v v' h => by unfold jnD; rw [ha v v' h, hb v v' h]
theorem okT_sev {nv : Nat} {all : Bool} {ds : Nat → TDen} : ∀ j, (∀ i, i ≤ j → okT nv (ds i)) → okT nv (sevD all ds j) := by
  intro j
  induction j with
  | zero => intro h; exact h 0 (by omega)
  | succ j ih => intro h; exact okT_jn (ih fun i hi => h i (by omega)) (h _ (by omega))
theorem notD_notD (a : TDen) : notD (notD a) = a := by
  funext v
  unfold notD
  cases a v <;> simp
def SumF (nv lo hi : Nat) (T0 N0 : xT) (I0 : xI) (R0 : xR) (p : Nat) (d : Den) (δ : Nat) : Prop :=
  okD nv d ∧ lo ≤ p ∧ p < hi ∧ 1 ≤ δ ∧ ∀ (T N : xT) (I : xI) (L : xL) (R : xR) (st b va : Nat), AgF lo hi T0 N0 I0 R0 T N I R → SetV T N R st b va → ∀ D, δ ≤ D → fSum_of D T N I L R p st = some (exR (d (L va)) b)
def TestF (nf nv lo hi : Nat) (T0 N0 : xT) (I0 : xI) (R0 : xR) (p : Nat) (d : TDen) (δ : Nat) : Prop :=
  okT nv d ∧ lo ≤ p ∧ p < hi ∧ isTe (T0 p) = true ∧ ∀ (T N : xT) (I : xI) (L : xL) (R : xR) (st b va : Nat), AgF lo hi T0 N0 I0 R0 T N I R → SetV T N R st b va → ∀ D, δ ≤ D → fTest_is nf D T N I L R p st = some (exB (d (L va)) b)
section
variable {T0 N0 T1 N1 : xT} {I0 I1 : xI} {R0 R1 : xR} {nv nf lo hi lo' hi' p pa pb δ δa δb : Nat} {a b d : Den} {ta tb t : TDen}
theorem AgF_mono {T N : xT} {I : xI} {R : xR} (h1 : AgF lo hi T0 N0 I0 R0 T1 N1 I1 R1) (hl : lo' ≤ lo) (hh : hi ≤ hi') (h2 : AgF lo' hi' T1 N1 I1 R1 T N I R) : AgF lo hi T0 N0 I0 R0 T N I R := by
  intro x x1 x2
  obtain ⟨a1, a2, a3, a4⟩ := h1 x x1 x2
  obtain ⟨b1, b2, b3, b4⟩ := h2 x (by omega) (by omega)
  exact ⟨b1.trans a1, b2.trans a2, b3.trans a3, b4.trans a4⟩
theorem SumF.mono {δ' : Nat} (h : SumF nv lo hi T0 N0 I0 R0 p d δ) (h1 : AgF lo hi T0 N0 I0 R0 T1 N1 I1 R1) (hl : lo' ≤ lo) (hh : hi ≤ hi') (hd : δ ≤ δ') : SumF nv lo' hi' T1 N1 I1 R1 p d δ' := by
  obtain ⟨a1, a2, a3, a4, a5⟩ := h
  exact ⟨a1, by omega, by omega, by omega, fun T N I L R st b va hA hS D hD => a5 T N I L R st b va (AgF_mono h1 hl hh hA) hS D (by omega)⟩
theorem TestF.mono {δ' : Nat} (h : TestF nf nv lo hi T0 N0 I0 R0 p t δ) (h1 : AgF lo hi T0 N0 I0 R0 T1 N1 I1 R1) (hl : lo' ≤ lo) (hh : hi ≤ hi') (hd : δ ≤ δ') : TestF nf nv lo' hi' T1 N1 I1 R1 p t δ' := by
  obtain ⟨a1, a2, a3, a4, a5⟩ := h
  exact ⟨a1, by omega, by omega, by rw [(h1 p a2 a3).1]; exact a4, fun T N I L R st b va hA hS D hD => a5 T N I L R st b va (AgF_mono h1 hl hh hA) hS D (by omega)⟩
theorem sumF_num {n : Nat} (h1 : T0 p = 10) (h2 : I0 p 0 = ii n) (hn : n ≤ 1000) (hl : lo ≤ p) (hh : p < hi) : SumF nv lo hi T0 N0 I0 R0 p (fun _ => some (jj n)) 1 := by
  refine ⟨okD_num hn, hl, hh, by omega, fun T N I L R st b va hA hS D hD => ?_⟩
  obtain ⟨D, rfl⟩ : ∃ z, D = z + 1 := ⟨D - 1, by omega⟩
  obtain ⟨a1, a2, a3, a4⟩ := hA p hl hh
  rw [h1] at a1
  have e := congrFun a3 0
  rw [h2] at e
  unfold fSum_of fX11_of
  simp (disch := omega) only [↓nm_v, ↓tg, ↓rA, ↓chk_if, ↓reduceIte, inb_ii, ii_nat, ii_add, and_self, bi_zb, if_bi, if_bi1, ii_leT, ii_leF, ii_ltT, ii_ltF, ii_eqF, ii_m1F, a1, e, ↓bn_e, ii_64]
  rfl
theorem sumF_val {k : Nat} (h1 : T0 p = 11) (h2 : I0 p 0 = ii k) (hk : k < nv) (hv : nv ≤ 19) (hl : lo ≤ p) (hh : p < hi) : SumF nv lo hi T0 N0 I0 R0 p (fun v => some (v k)) 1 := by
  refine ⟨okD_val hk, hl, hh, by omega, fun T N I L R st b va hA hS D hD => ?_⟩
  obtain ⟨D, rfl⟩ : ∃ z, D = z + 1 := ⟨D - 1, by omega⟩
  obtain ⟨a1, a2, a3, a4⟩ := hA p hl hh
  obtain ⟨s1, s2, s3, s4, s5, s6⟩ := hS
  rw [h1] at a1
  have e := congrFun a3 0
  rw [h2] at e
  unfold fSum_of fX12_of
  simp (disch := omega) only [↓nm_v, ↓tg, ↓rA, ↓chk_if, ↓reduceIte, inb_ii, ii_nat, ii_add, and_self, bi_zb, if_bi, if_bi1, ii_leT, ii_leF, ii_ltT, ii_ltF, ii_eqF, ii_m1F, a1, e, s1, s4, s5, s6, ↓bn_e, ↓sb s4]
  rfl
/-- the sign of an operator -/
def sgO (o : Nat) : Nat := if o = 20 then 43 else if o = 21 then 45 else if o = 22 then 42 else if o = 23 then 47 else if o = 24 then 37 else if o = 25 then 60 else if o = 26 then 62 else 61
theorem sumF_two {o : Nat} (h1 : T0 p = 12) (h2 : I0 p 0 = ii (sgO o)) (ho : 20 ≤ o ∧ o < 25) (h3 : R0 p 1 = some pa) (h4 : R0 p 2 = some pb) (ha : SumF nv lo hi T0 N0 I0 R0 pa a δa) (hb : SumF nv lo hi T0 N0 I0 R0 pb b δb) (hl : lo ≤ p) (hh : p < hi) : SumF nv lo hi T0 N0 I0 R0 p (twoD o a b) (δa + δb) := by
  have hda := ha.2.2.2.1
  have hdb := hb.2.2.2.1
  refine ⟨okD_two ha.1 hb.1, hl, hh, by omega, fun T N I L R st z va hA hS D hD => ?_⟩
  obtain ⟨D, rfl⟩ : ∃ z, D = z + 1 := ⟨D - 1, by omega⟩
  obtain ⟨a1, a2, a3, a4⟩ := hA p hl hh
  have ea := ha.2.2.2.2 T N I L R st z va hA hS D (by omega)
  have eb := hb.2.2.2.2 T N I L R st z va hA hS D (by omega)
  obtain ⟨s1, s2, s3, s4, s5, s6⟩ := hS
  rw [h1] at a1
  have e := congrFun a3 0
  rw [h2] at e
  have r1 := congrFun a4 1
  rw [h3] at r1
  have r2 := congrFun a4 2
  rw [h4] at r2
  have fin : ∀ v : Int64, fX13_of_b117 (fSum_of D) T N I L R st v = some (exR (if big v = true then none else some v) z) := by
    intro v
    unfold fX13_of_b117 big
    by_cases c1 : jj 1000000000 < v
    · simp (disch := omega) only [↓nm_v, ↓tg, ↓rA, ↓chk_if, ↓reduceIte, inb_ii, ii_nat, ii_add, and_self, bi_zb, if_bi, if_bi1, ii_leT, ii_leF, ii_ltT, ii_ltF, ii_eqF, ii_m1F, c1, s1, s3, ↓sb s2, decide_true, Bool.or_true]
      rfl
    · by_cases c2 : v < (-1000000000 : Int64)
      · have c3 : ((-1000000000 : Int64) ≤ v) = False := eq_false (by rw [leL_int]; rw [ltL_int] at c2; omega)
        simp (disch := omega) only [↓nm_v, ↓tg, ↓rA, ↓chk_if, ↓reduceIte, inb_ii, ii_nat, ii_add, and_self, bi_zb, if_bi, if_bi1, ii_leT, ii_leF, ii_ltT, ii_ltF, ii_eqF, ii_m1F, c1, c2, c3, s1, s3, ↓sb s2, decide_true, Bool.true_or]
        rfl
      · have c3 : ((-1000000000 : Int64) ≤ v) = True := eq_true (by rw [leL_int]; rw [ltL_int] at c2; omega)
        simp (disch := omega) only [↓nm_v, ↓tg, ↓rA, ↓chk_if, ↓reduceIte, inb_ii, ii_nat, ii_add, and_self, bi_zb, if_bi, if_bi1, ii_leT, ii_leF, ii_ltT, ii_ltF, ii_eqF, ii_m1F, c1, c2, c3, decide_false, Bool.or_false, Bool.false_eq_true]
        rfl
  unfold fSum_of twoD
  rw [if_neg (by rw [a1]; decide), if_neg (by rw [a1]; decide), if_pos a1]
  unfold fX13_of
  simp (disch := omega) only [↓nm_v, ↓tg, ↓rA, ↓chk_if, ↓reduceIte, inb_ii, ii_nat, ii_add, and_self, bi_zb, if_bi, if_bi1, ii_leT, ii_leF, ii_ltT, ii_ltF, ii_eqF, ii_m1F, a1, ↓sb r1, ↓bn_of ea]
  cases a (L va) with
  | none =>
    simp (disch := omega) only [↓nm_v, ↓tg, ↓rA, ↓chk_if, ↓reduceIte, inb_ii, ii_nat, ii_add, and_self, bi_zb, if_bi, if_bi1, ii_leT, ii_leF, ii_ltT, ii_ltF, ii_eqF, ii_m1F, exR, ↓xc_l, s3, Option.bind_none]
  | some x =>
    simp (disch := omega) only [↓nm_v, ↓tg, ↓rA, ↓chk_if, ↓reduceIte, inb_ii, ii_nat, ii_add, and_self, bi_zb, if_bi, if_bi1, ii_leT, ii_leF, ii_ltT, ii_ltF, ii_eqF, ii_m1F, exR, ↓xc_r, ↓sb r2, ↓bn_of eb, Option.bind_some]
    cases b (L va) with
    | none =>
      simp (disch := omega) only [↓nm_v, ↓tg, ↓rA, ↓chk_if, ↓reduceIte, inb_ii, ii_nat, ii_add, and_self, bi_zb, if_bi, if_bi1, ii_leT, ii_leF, ii_ltT, ii_ltF, ii_eqF, ii_m1F, exR, ↓xc_l, s3, Option.bind_none]
    | some y =>
      simp (disch := omega) only [↓nm_v, ↓tg, ↓rA, ↓chk_if, ↓reduceIte, inb_ii, ii_nat, ii_add, and_self, bi_zb, if_bi, if_bi1, ii_leT, ii_leF, ii_ltT, ii_ltF, ii_eqF, ii_m1F, exR, ↓xc_r, Option.bind_some]
      show _ = some (exR (rkB o x y) z)
      obtain rfl | rfl | rfl | rfl | rfl : o = 20 ∨ o = 21 ∨ o = 22 ∨ o = 23 ∨ o = 24 := by omega
      · have e' : I p 0 = ii 43 := e
        rw [show rkB 20 x y = if big (x + y) = true then none else some (x + y) from rfl, ← fin]
        simp (disch := omega) only [↓nm_v, ↓tg, ↓rA, ↓chk_if, ↓reduceIte, inb_ii, ii_nat, ii_add, and_self, bi_zb, if_bi, if_bi1, ii_leT, ii_leF, ii_ltT, ii_ltF, ii_eqF, ii_m1F, e', fX13_of_b49, a1]
      · have e' : I p 0 = ii 45 := e
        rw [show rkB 21 x y = if big (x - y) = true then none else some (x - y) from rfl, ← fin]
        simp (disch := omega) only [↓nm_v, ↓tg, ↓rA, ↓chk_if, ↓reduceIte, inb_ii, ii_nat, ii_add, and_self, bi_zb, if_bi, if_bi1, ii_leT, ii_leF, ii_ltT, ii_ltF, ii_eqF, ii_m1F, e', fX13_of_b49, a1]
      · have e' : I p 0 = ii 42 := e
        rw [show rkB 22 x y = if big (x * y) = true then none else some (x * y) from rfl, ← fin]
        simp (disch := omega) only [↓nm_v, ↓tg, ↓rA, ↓chk_if, ↓reduceIte, inb_ii, ii_nat, ii_add, and_self, bi_zb, if_bi, if_bi1, ii_leT, ii_leF, ii_ltT, ii_ltF, ii_eqF, ii_m1F, e', fX13_of_b49, a1]
      · have e' : I p 0 = ii 47 := e
        by_cases c : y = jj 0
        · rw [show rkB 23 x y = none by subst c; rfl]
          simp (disch := omega) only [↓nm_v, ↓tg, ↓rA, ↓chk_if, ↓reduceIte, inb_ii, ii_nat, ii_add, and_self, bi_zb, if_bi, if_bi1, ii_leT, ii_leF, ii_ltT, ii_ltF, ii_eqF, ii_m1F, e', fX13_of_b37, c, s1, s3, ↓sb s2]
          rfl
        · rw [show rkB 23 x y = if big (x / y) = true then none else some (x / y) by unfold rkB rk; simp [c], ← fin]
          simp (disch := omega) only [↓nm_v, ↓tg, ↓rA, ↓chk_if, ↓reduceIte, inb_ii, ii_nat, ii_add, and_self, bi_zb, if_bi, if_bi1, ii_leT, ii_leF, ii_ltT, ii_ltF, ii_eqF, ii_m1F, e', fX13_of_b37, fX13_of_b49, a1, c, not_false_eq_true, decide_true]
      · have e' : I p 0 = ii 37 := e
        by_cases c : y = jj 0
        · rw [show rkB 24 x y = none by subst c; rfl]
          simp (disch := omega) only [↓nm_v, ↓tg, ↓rA, ↓chk_if, ↓reduceIte, inb_ii, ii_nat, ii_add, and_self, bi_zb, if_bi, if_bi1, ii_leT, ii_leF, ii_ltT, ii_ltF, ii_eqF, ii_m1F, e', fX13_of_b37, c, s1, s3, ↓sb s2]
          rfl
        · rw [show rkB 24 x y = if big (x - x / y * y) = true then none else some (x - x / y * y) by unfold rkB rk; simp [c], ← fin]
          simp (disch := omega) only [↓nm_v, ↓tg, ↓rA, ↓chk_if, ↓reduceIte, inb_ii, ii_nat, ii_add, and_self, bi_zb, if_bi, if_bi1, ii_leT, ii_leF, ii_ltT, ii_ltF, ii_eqF, ii_m1F, e', fX13_of_b37, fX13_of_b49, a1, c, not_false_eq_true, decide_true]
theorem testF_cmp {o : Nat} (h1 : T0 p = 13) (h2 : I0 p 0 = ii (sgO o)) (ho : 25 ≤ o ∧ o < 28) (h3 : R0 p 1 = some pa) (h4 : R0 p 2 = some pb) (ha : SumF nv lo hi T0 N0 I0 R0 pa a δa) (hb : SumF nv lo hi T0 N0 I0 R0 pb b δb) (hda : δa ≤ 64) (hdb : δb ≤ 64) (hl : lo ≤ p) (hh : p < hi) : TestF nf nv lo hi T0 N0 I0 R0 p (cmpD o a b) 1 := by
  refine ⟨okT_cmp ha.1 hb.1, hl, hh, by rw [h1]; rfl, fun T N I L R st z va hA hS D hD => ?_⟩
  obtain ⟨D, rfl⟩ : ∃ z, D = z + 1 := ⟨D - 1, by omega⟩
  obtain ⟨a1, a2, a3, a4⟩ := hA p hl hh
  have ea := ha.2.2.2.2 T N I L R st z va hA hS 64 (by omega)
  have eb := hb.2.2.2.2 T N I L R st z va hA hS 64 (by omega)
  obtain ⟨s1, s2, s3, s4, s5, s6⟩ := hS
  rw [h1] at a1
  have e := congrFun a3 0
  rw [h2] at e
  have r1 := congrFun a4 1
  rw [h3] at r1
  have r2 := congrFun a4 2
  rw [h4] at r2
  unfold fTest_is cmpD
  rw [if_pos a1]
  unfold fX15_is
  simp (disch := omega) only [↓nm_v, ↓tg, ↓rA, ↓chk_if, ↓reduceIte, inb_ii, ii_nat, ii_add, and_self, bi_zb, if_bi, if_bi1, ii_leT, ii_leF, ii_ltT, ii_ltF, ii_eqF, ii_m1F, a1, ↓sb r1, ↓bn_of ea]
  cases a (L va) with
  | none =>
    simp (disch := omega) only [↓nm_v, ↓tg, ↓rA, ↓chk_if, ↓reduceIte, inb_ii, ii_nat, ii_add, and_self, bi_zb, if_bi, if_bi1, ii_leT, ii_leF, ii_ltT, ii_ltF, ii_eqF, ii_m1F, exR, exB, ↓xc_l, s3, Option.bind_none]
  | some x =>
    simp (disch := omega) only [↓nm_v, ↓tg, ↓rA, ↓chk_if, ↓reduceIte, inb_ii, ii_nat, ii_add, and_self, bi_zb, if_bi, if_bi1, ii_leT, ii_leF, ii_ltT, ii_ltF, ii_eqF, ii_m1F, exR, exB, ↓xc_r, ↓sb r2, ↓bn_of eb, Option.bind_some]
    cases b (L va) with
    | none =>
      simp (disch := omega) only [↓nm_v, ↓tg, ↓rA, ↓chk_if, ↓reduceIte, inb_ii, ii_nat, ii_add, and_self, bi_zb, if_bi, if_bi1, ii_leT, ii_leF, ii_ltT, ii_ltF, ii_eqF, ii_m1F, exR, exB, ↓xc_l, s3, Option.bind_none]
    | some y =>
      have e1 : ∀ x y : Int64, (x ≤ y) = ¬ y < x := fun x y => by rw [leL_int, ltL_int]; exact propext (by omega)
      simp (disch := omega) only [↓nm_v, ↓tg, ↓rA, ↓chk_if, ↓reduceIte, inb_ii, ii_nat, ii_add, and_self, bi_zb, if_bi, if_bi1, ii_leT, ii_leF, ii_ltT, ii_ltF, ii_eqF, ii_m1F, exR, exB, ↓xc_r, Option.bind_some]
      obtain rfl | rfl | rfl : o = 25 ∨ o = 26 ∨ o = 27 := by omega
      · have e' : I p 0 = ii 60 := e
        simp (disch := omega) only [↓nm_v, ↓tg, ↓rA, ↓chk_if, ↓reduceIte, inb_ii, ii_nat, ii_add, and_self, bi_zb, if_bi, if_bi1, ii_leT, ii_leF, ii_ltT, ii_ltF, ii_eqF, ii_m1F, e', show cmpV 25 x y = decide (x < y) from rfl]
        by_cases c : x < y
        · have c2 : (y ≤ x) = False := by rw [e1]; simp [c]
          simp [c, c2, bi]
        · have c2 : (y ≤ x) = True := by rw [e1]; simp [c]
          simp [c, c2, bi]
      · have e' : I p 0 = ii 62 := e
        simp (disch := omega) only [↓nm_v, ↓tg, ↓rA, ↓chk_if, ↓reduceIte, inb_ii, ii_nat, ii_add, and_self, bi_zb, if_bi, if_bi1, ii_leT, ii_leF, ii_ltT, ii_ltF, ii_eqF, ii_m1F, e', show cmpV 26 x y = decide (y < x) from rfl]
        by_cases c : y < x
        · have c2 : (x ≤ y) = False := by rw [e1]; simp [c]
          simp [c, c2, bi]
        · have c2 : (x ≤ y) = True := by rw [e1]; simp [c]
          simp [c, c2, bi]
      · have e' : I p 0 = ii 61 := e
        simp (disch := omega) only [↓nm_v, ↓tg, ↓rA, ↓chk_if, ↓reduceIte, inb_ii, ii_nat, ii_add, and_self, bi_zb, if_bi, if_bi1, ii_leT, ii_leF, ii_ltT, ii_ltF, ii_eqF, ii_m1F, e', show cmpV 27 x y = decide (x = y) from rfl]
        by_cases c : x = y <;> simp [c, bi]
theorem testF_not (h1 : T0 p = 14) (h3 : R0 p 0 = some pa) (ha : TestF nf nv lo hi T0 N0 I0 R0 pa ta δa) (hl : lo ≤ p) (hh : p < hi) : TestF nf nv lo hi T0 N0 I0 R0 p (notD ta) (δa + 1) := by
  refine ⟨okT_not ha.1, hl, hh, by rw [h1]; rfl, fun T N I L R st z va hA hS D hD => ?_⟩
  obtain ⟨D, rfl⟩ : ∃ z, D = z + 1 := ⟨D - 1, by omega⟩
  obtain ⟨a1, a2, a3, a4⟩ := hA p hl hh
  have ea := ha.2.2.2.2 T N I L R st z va hA hS D (by omega)
  obtain ⟨s1, s2, s3, s4, s5, s6⟩ := hS
  rw [h1] at a1
  have r1 := congrFun a4 0
  rw [h3] at r1
  unfold fTest_is notD
  rw [if_neg (by rw [a1]; decide), if_pos a1]
  unfold fX16_is
  simp (disch := omega) only [↓nm_v, ↓tg, ↓rA, ↓chk_if, ↓reduceIte, inb_ii, ii_nat, ii_add, and_self, bi_zb, if_bi, if_bi1, ii_leT, ii_leF, ii_ltT, ii_ltF, ii_eqF, ii_m1F, a1, ↓sb r1, ↓bn_of ea]
  cases ta (L va) with
  | none =>
    simp (disch := omega) only [↓nm_v, ↓tg, ↓rA, ↓chk_if, ↓reduceIte, inb_ii, ii_nat, ii_add, and_self, bi_zb, if_bi, if_bi1, ii_leT, ii_leF, ii_ltT, ii_ltF, ii_eqF, ii_m1F, exB, ↓xc_l, s3, Option.map_none]
  | some x =>
    simp (disch := omega) only [↓nm_v, ↓tg, ↓rA, ↓chk_if, ↓reduceIte, inb_ii, ii_nat, ii_add, and_self, bi_zb, if_bi, if_bi1, ii_leT, ii_leF, ii_ltT, ii_ltF, ii_eqF, ii_m1F, exB, ↓xc_r, Option.map_some]
    cases x <;> rfl
/-- what is once told stays -/
theorem sevD_stick {all : Bool} {ds : Nat → TDen} {v : Nat → Int64} {i : Nat} (h : sevD all ds i v ≠ some all) : ∀ k, sevD all ds (i + k) v = sevD all ds i v := by
  intro k
  induction k with
  | zero => rfl
  | succ k ih =>
    show jnD all (sevD all ds (i + k)) (ds (i + k + 1)) v = _
    unfold jnD
    rw [ih]
    cases q : sevD all ds i v with
    | none => rfl
    | some x =>
      rw [Option.bind_some]
      have : ¬ x = all := fun e => h (by rw [q, e])
      rw [if_neg this]
theorem bi_eq (x y : Bool) : (bi x = bi y) = (x = y) := by cases x <;> cases y <;> decide
/-- a list of objects at l: cnt of them, in the array at e -/
abbrev Lst (T N : xT) (I : xI) (R : xR) (l e cnt : Nat) : Prop := T l = 19 ∧ I l 2 = ii cnt ∧ R l 1 = some e ∧ T e = 104 ∧ cnt ≤ N e ∧ N e < 10000
theorem lst_get {T N : xT} {I : xI} {R : xR} {l e cnt : Nat} (h : Lst T N I R l e cnt) {i q : Nat} (hi : i < cnt) (hq : R e i = some q) : fJ2_get T N I R l (ii i) = some q := by
  obtain ⟨h1, h2, h3, h4, h5, h6⟩ := h
  unfold fJ2_get fJ5_checkIndex fJ6_checkIndex_n3 fJ2_elementData
  simp (disch := omega) only [↓nm_v, ↓tg, ↓rA, ↓chk_if, ↓reduceIte, inb_ii, ii_nat, ii_add, and_self, bi_zb, if_bi, if_bi1, ii_leT, ii_leF, ii_ltT, ii_ltF, ii_eqF, ii_m1F, h1, h2, h4, ↓bn_e, ↓sb h3, ↓sb hq]
theorem lst_size {T N : xT} {I : xI} {R : xR} {l e cnt : Nat} (h : Lst T N I R l e cnt) : fJ2_size T I l = some (ii cnt) := by
  unfold fJ2_size
  simp (disch := omega) only [↓nm_v, ↓tg, ↓rA, ↓chk_if, ↓reduceIte, inb_ii, ii_nat, ii_add, and_self, bi_zb, if_bi, if_bi1, ii_leT, ii_leF, ii_ltT, ii_ltF, ii_eqF, ii_m1F, h.1, h.2.1]
theorem Lst_ag {T N : xT} {I : xI} {R : xR} {l e cnt : Nat} (h : Lst T0 N0 I0 R0 l e cnt) (hA : AgF lo hi T0 N0 I0 R0 T N I R) (hl : lo ≤ l ∧ l < hi) (he : lo ≤ e ∧ e < hi) : Lst T N I R l e cnt ∧ R e = R0 e := by
  obtain ⟨h1, h2, h3, h4, h5, h6⟩ := h
  obtain ⟨a1, a2, a3, a4⟩ := hA l hl.1 hl.2
  obtain ⟨b1, b2, b3, b4⟩ := hA e he.1 he.2
  exact ⟨⟨by rw [a1]; exact h1, by rw [a3]; exact h2, by rw [a4]; exact h3, by rw [b1]; exact h4, by rw [b2]; exact h5, by rw [b2]; exact h6⟩, b4⟩
theorem testF_sev {all : Bool} {ds : Nat → TDen} {l e cnt : Nat} (h1 : T0 p = 15) (h2 : I0 p 0 = bi all) (h3 : R0 p 1 = some l) (hL : Lst T0 N0 I0 R0 l e (cnt + 1)) (hel : ∀ j, j < cnt + 1 → ∃ q, R0 e j = some q ∧ TestF nf nv lo hi T0 N0 I0 R0 q (ds j) δ)
    (hcn : cnt + 1 < nf) (hl : lo ≤ p) (hh : p < hi) (hll : lo ≤ l ∧ l < hi) (hle : lo ≤ e ∧ e < hi) : TestF nf nv lo hi T0 N0 I0 R0 p (sevD all ds cnt) (δ + 1) := by
  refine ⟨okT_sev _ (fun i hi => by obtain ⟨q, _, h⟩ := hel i (by omega); exact h.1), hl, hh, by rw [h1]; rfl, fun T N I L R st z va hA hS D hD => ?_⟩
  obtain ⟨D, rfl⟩ : ∃ z, D = z + 1 := ⟨D - 1, by omega⟩
  obtain ⟨a1, a2, a3, a4⟩ := hA p hl hh
  obtain ⟨hL', eR⟩ := Lst_ag hL hA hll hle
  have s3 := hS.2.2.1
  rw [h1] at a1
  have e0 := congrFun a3 0
  rw [h2] at e0
  have r1 := congrFun a4 1
  rw [h3] at r1
  have lT := hL'.1
  have hN := hL.2.2.2.2
  unfold fTest_is
  rw [if_neg (by rw [a1]; decide), if_neg (by rw [a1]; decide), if_pos a1]
  unfold fX17_is
  have loop : ∀ (m i k : Nat), i + m = cnt + 1 → m < k → (i = 0 ∨ ∃ j, i = j + 1 ∧ sevD all ds j (L va) = some all) → fX17_is_b2 nf (fTest_is nf D) T N I L R k p st (ii i) = some (exB (sevD all ds cnt (L va)) z) := by
    intro m
    induction m with
    | zero =>
      intro i k hi hk hp
      obtain ⟨k, rfl⟩ : ∃ z, k = z + 1 := ⟨k - 1, by omega⟩
      obtain rfl : i = cnt + 1 := by omega
      obtain ⟨j, hj, hp2⟩ := hp.resolve_left (by omega)
      obtain rfl : j = cnt := by omega
      rw [fX17_is_b2, hp2]
      simp (disch := omega) only [↓nm_v, ↓tg, ↓rA, ↓chk_if, ↓reduceIte, inb_ii, ii_nat, ii_add, and_self, bi_zb, if_bi, if_bi1, ii_leT, ii_leF, ii_ltT, ii_ltF, ii_eqF, ii_m1F, a1, ↓sb r1, lT, ↓bn_of (lst_size hL'), e0, exB]
    | succ m ih =>
      intro i k hi hk hp
      obtain ⟨k, rfl⟩ : ∃ z, k = z + 1 := ⟨k - 1, by omega⟩
      obtain ⟨q, hq, hF⟩ := hel i (by omega)
      have ev := hF.2.2.2.2 T N I L R st z va hA hS D (by omega)
      have te : isTe (T q) = true := by rw [(hA q hF.2.1 hF.2.2.1).1]; exact hF.2.2.2.1
      rw [← eR] at hq
      have pre : sevD all ds i (L va) = ds i (L va) := by
        rcases hp with rfl | ⟨j, rfl, hp2⟩
        · rfl
        · show jnD all (sevD all ds j) (ds (j + 1)) (L va) = _
          unfold jnD
          rw [hp2]
          simp
      have fin : ds i (L va) ≠ some all → sevD all ds cnt (L va) = ds i (L va) := by
        intro hne
        have := sevD_stick (all := all) (ds := ds) (v := L va) (i := i) (by rw [pre]; exact hne) (cnt - i)
        rw [show i + (cnt - i) = cnt by omega, pre] at this
        exact this
      rw [fX17_is_b2]
      cases hx : ds i (L va) with
      | none =>
        rw [hx] at ev fin
        rw [fin (by simp)]
        simp (disch := omega) only [↓nm_v, ↓tg, ↓rA, ↓chk_if, ↓reduceIte, inb_ii, ii_nat, ii_add, and_self, bi_zb, if_bi, if_bi1, ii_leT, ii_leF, ii_ltT, ii_ltF, ii_eqF, ii_m1F, a1, ↓sb r1, lT, ↓bn_of (lst_size hL'), ↓bn_of (lst_get hL' (show i < cnt + 1 by omega) hq), te, ↓bn_of ev, exB, ↓xc_l, s3]
      | some x =>
        rw [hx] at ev fin
        by_cases c : x = all
        · subst c
          simp (disch := omega) only [↓nm_v, ↓tg, ↓rA, ↓chk_if, ↓reduceIte, inb_ii, ii_nat, ii_add, and_self, bi_zb, if_bi, if_bi1, ii_leT, ii_leF, ii_ltT, ii_ltF, ii_eqF, ii_m1F, a1, ↓sb r1, lT, ↓bn_of (lst_size hL'), ↓bn_of (lst_get hL' (show i < cnt + 1 by omega) hq), te, ↓bn_of ev, exB, ↓xc_r, e0]
          exact ih (i + 1) k (by omega) (by omega) (Or.inr ⟨i, rfl, by rw [pre, hx]⟩)
        · rw [fin (by simpa using c)]
          have c2 : (bi x = bi all) = False := by rw [bi_eq]; exact eq_false c
          simp (disch := omega) only [↓nm_v, ↓tg, ↓rA, ↓chk_if, ↓reduceIte, inb_ii, ii_nat, ii_add, and_self, bi_zb, if_bi, if_bi1, ii_leT, ii_leF, ii_ltT, ii_ltF, ii_eqF, ii_m1F, a1, ↓sb r1, lT, ↓bn_of (lst_size hL'), ↓bn_of (lst_get hL' (show i < cnt + 1 by omega) hq), te, ↓bn_of ev, exB, ↓xc_r, e0, c2]
          cases x <;> cases all <;> first | rfl | exact absurd rfl c
  exact loop (cnt + 1) 0 nf (by omega) (by omega) (Or.inl rfl)
end
/-- a clause of the component at p -/
def ClF (nf lo hi : Nat) (T0 N0 : xT) (I0 : xI) (R0 : xR) (p hd : Nat) (sd : Den) (td : Option TDen) : Prop :=
  lo ≤ p ∧ p < hi ∧ T0 p = 9 ∧ I0 p 0 = ii hd ∧ hd < 3 ∧ (if hd = 2 then R0 p 1 = none else ∃ ps, R0 p 1 = some ps ∧ SumF 9 lo hi T0 N0 I0 R0 ps sd 64) ∧ (match td with
    | none => R0 p 2 = none
    | some t => ∃ pt, R0 p 2 = some pt ∧ TestF nf 9 lo hi T0 N0 I0 R0 pt t 40)
section
variable {T0 N0 T1 N1 : xT} {I0 I1 : xI} {R0 R1 : xR} {nf lo hi lo' hi' p hd : Nat} {sd : Den} {td : Option TDen}
theorem ClF.mono (h : ClF nf lo hi T0 N0 I0 R0 p hd sd td) (h1 : AgF lo hi T0 N0 I0 R0 T1 N1 I1 R1) (hl : lo' ≤ lo) (hh : hi ≤ hi') : ClF nf lo' hi' T1 N1 I1 R1 p hd sd td := by
  obtain ⟨a1, a2, a3, a4, a5, a6, a7⟩ := h
  obtain ⟨b1, b2, b3, b4⟩ := h1 p a1 a2
  refine ⟨by omega, by omega, by rw [b1]; exact a3, by rw [b3]; exact a4, a5, ?_, ?_⟩
  · split
    · rename_i q
      rw [if_pos q] at a6
      rw [b4]; exact a6
    · rename_i q
      rw [if_neg q] at a6
      obtain ⟨ps, c1, c2⟩ := a6
      exact ⟨ps, by rw [b4]; exact c1, c2.mono h1 hl hh (Nat.le_refl _)⟩
  · cases td with
    | none => show R1 p 2 = none; rw [b4]; exact a7
    | some t =>
      obtain ⟨pt, c1, c2⟩ := a7
      exact ⟨pt, by rw [b4]; exact c1, c2.mono h1 hl hh (Nat.le_refl _)⟩
theorem ClF.tells (h : ClF nf lo hi T0 N0 I0 R0 p hd sd td) {T N : xT} {I : xI} {L : xL} {R : xR} {st z va : Nat} (hA : AgF lo hi T0 N0 I0 R0 T N I R) (hS : SetV T N R st z va) (hb : ∀ i, i < 9 → -2000 ≤ (L va i).toInt ∧ (L va i).toInt ≤ 2000) :
    T p = 9 ∧ I p 0 = ii hd ∧ clV hd sd td (L va) ≠ some (-4000000000) ∧ fX9_tells nf T N I L R p st = some ((clV hd sd td (L va)).getD (-4000000000)) := by
  obtain ⟨a1, a2, a3, a4, a5, a6, a7⟩ := h
  obtain ⟨b1, b2, b3, b4⟩ := hA p a1 a2
  have t9 : T p = 9 := b1.trans a3
  have s3 := hS.2.2.1
  have e40 : (-4000000000 : Int64).toInt = -4000000000 := by decide
  have body : (if hd = 2 then some (jj 1) else sd (L va)) ≠ some (-4000000000) ∧ fX9_tells_b22 nf T N I L R p st = some ((if hd = 2 then some (jj 1) else sd (L va)).getD (-4000000000)) := by
    by_cases q : hd = 2
    · rw [if_pos q] at a6 ⊢
      refine ⟨by decide, ?_⟩
      unfold fX9_tells_b22
      rw [b4, a6, oc_n]
      simp (disch := omega) only [↓nm_v, ↓tg, ↓rA, ↓chk_if, ↓reduceIte, inb_ii, ii_nat, ii_add, and_self, bi_zb, if_bi, if_bi1, ii_leT, ii_leF, ii_ltT, ii_ltF, ii_eqF, ii_m1F, t9]
      rfl
    · rw [if_neg q] at a6 ⊢
      obtain ⟨ps, c1, c2⟩ := a6
      have ev := c2.2.2.2.2 T N I L R st z va hA hS 64 (Nat.le_refl _)
      have bd := c2.1.2 (L va) hb
      refine ⟨fun e => ?_, ?_⟩
      · have := bd _ e
        omega
      · unfold fX9_tells_b22
        rw [b4, c1, oc_s']
        simp (disch := omega) only [↓nm_v, ↓tg, ↓rA, ↓chk_if, ↓reduceIte, inb_ii, ii_nat, ii_add, and_self, bi_zb, if_bi, if_bi1, ii_leT, ii_leF, ii_ltT, ii_ltF, ii_eqF, ii_m1F, t9, ↓bn_of ev]
        cases sd (L va) with
        | none => simp (disch := omega) only [↓nm_v, ↓tg, ↓rA, ↓chk_if, ↓reduceIte, inb_ii, ii_nat, ii_add, and_self, bi_zb, if_bi, if_bi1, ii_leT, ii_leF, ii_ltT, ii_ltF, ii_eqF, ii_m1F, exR, ↓xc_l, s3]; rfl
        | some x => simp (disch := omega) only [↓nm_v, ↓tg, ↓rA, ↓chk_if, ↓reduceIte, inb_ii, ii_nat, ii_add, and_self, bi_zb, if_bi, if_bi1, ii_leT, ii_leF, ii_ltT, ii_ltF, ii_eqF, ii_m1F, exR, ↓xc_r]; rfl
  refine ⟨t9, (congrFun b3 0).trans a4, ?_⟩
  unfold clV tOK
  cases td with
  | none =>
    have a7 : R0 p 2 = none := a7
    rw [if_pos rfl]
    refine ⟨body.1, ?_⟩
    unfold fX9_tells
    rw [b4, a7, oc_n]
    simp (disch := omega) only [↓nm_v, ↓tg, ↓rA, ↓chk_if, ↓reduceIte, inb_ii, ii_nat, ii_add, and_self, bi_zb, if_bi, if_bi1, ii_leT, ii_leF, ii_ltT, ii_ltF, ii_eqF, ii_m1F, t9]
    exact body.2
  | some t =>
    obtain ⟨pt, c1, c2⟩ := a7
    have ev := c2.2.2.2.2 T N I L R st z va hA hS 40 (Nat.le_refl _)
    unfold fX9_tells
    rw [b4, c1, oc_s']
    simp (disch := omega) only [↓nm_v, ↓tg, ↓rA, ↓chk_if, ↓reduceIte, inb_ii, ii_nat, ii_add, and_self, bi_zb, if_bi, if_bi1, ii_leT, ii_leF, ii_ltT, ii_ltF, ii_eqF, ii_m1F, t9, ↓bn_of ev]
    have hc3 : t (L va) = none ∨ t (L va) = some false ∨ t (L va) = some true := by
      cases t (L va) with
      | none => exact Or.inl rfl
      | some x => cases x <;> simp
    rcases hc3 with ht | ht | ht
    · rw [if_neg (by simp [ht]), ht]
      refine ⟨fun h => by (cases h), ?_⟩
      simp (disch := omega) only [↓nm_v, ↓tg, ↓rA, ↓chk_if, ↓reduceIte, inb_ii, ii_nat, ii_add, and_self, bi_zb, if_bi, if_bi1, ii_leT, ii_leF, ii_ltT, ii_ltF, ii_eqF, ii_m1F, exB, ↓xc_l, s3]
      rfl
    · rw [if_neg (by simp [ht]), ht]
      refine ⟨fun h => by (cases h), ?_⟩
      simp (disch := omega) only [↓nm_v, ↓tg, ↓rA, ↓chk_if, ↓reduceIte, inb_ii, ii_nat, ii_add, and_self, bi_zb, if_bi, if_bi1, ii_leT, ii_leF, ii_ltT, ii_ltF, ii_eqF, ii_m1F, exB, ↓xc_r, bi_f]
      rfl
    · rw [if_pos (by simp [ht]), ht]
      refine ⟨body.1, ?_⟩
      simp (disch := omega) only [↓nm_v, ↓tg, ↓rA, ↓chk_if, ↓reduceIte, inb_ii, ii_nat, ii_add, and_self, bi_zb, if_bi, if_bi1, ii_leT, ii_leF, ii_ltT, ii_ltF, ii_eqF, ii_m1F, exB, ↓xc_r, bi_t]
      exact body.2
/-- a law out of its clauses -/
theorem lawF_of {l e nl : Nat} {hd : Nat → Nat} {sd : Nat → Den} {td : Nat → Option TDen} {fz : Nat → Prop} (h1 : T0 p = 17) (h2 : R0 p 0 = some l) (hL : Lst T0 N0 I0 R0 l e nl) (hn : nl ≤ 12) (hnf : 402 < nf) (hp : lo ≤ p ∧ p < hi) (hll : lo ≤ l ∧ l < hi) (hle : lo ≤ e ∧ e < hi)
    (hc : ∀ j, j < nl → ∃ q, R0 e j = some q ∧ ClF nf lo hi T0 N0 I0 R0 q (hd j) (sd j) (td j)) (hfz : ∀ a, lo ≤ a → a < hi → fz a) : loc9 (lawD nl hd sd td) ∧ LawF nf fz T0 N0 I0 R0 p (lawD nl hd sd td) := by
  refine ⟨fun h v v' hv => ?_, fun T N I L R st b va hag h4 h5 h6 h7 h8 h9 hb => ?_⟩
  · unfold lawD
    have : ∀ i, i < nl → clV (hd i) (sd i) (td i) v = clV (hd i) (sd i) (td i) v' := by
      intro i hi
      obtain ⟨q, _, a1, a2, a3, a4, a5, a6, a7⟩ := hc i hi
      have e1 : tOK (td i) v = tOK (td i) v' := by
        unfold tOK
        cases ht : td i with
        | none => rfl
        | some t =>
          rw [ht] at a7
          obtain ⟨pt, c1, c2⟩ := a7
          show decide (t v = some true) = decide (t v' = some true)
          rw [c2.1 v v' hv]
      unfold clV
      rw [e1]
      by_cases q2 : hd i = 2
      · rw [if_pos q2, if_pos q2]
      · rw [if_neg q2] at a6
        obtain ⟨ps, c1, c2⟩ := a6
        rw [c2.1.1 v v' hv]
    refine rngF_congr (fun j x _ hj => ?_) _
    unfold lawS
    rw [this j (by omega)]
  · have hA : AgF lo hi T0 N0 I0 R0 T N I R := fun a x y => hag a (hfz a x y)
    obtain ⟨p1, p2, p3, p4⟩ := hA p hp.1 hp.2
    obtain ⟨hL', eR⟩ := Lst_ag hL hA hll hle
    have tp : T p = 17 := p1.trans h1
    have r0 : R p 0 = some l := by rw [p4]; exact h2
    have lT := hL'.1
    have hS : SetV T N R st b va := ⟨h4, h5, h6, h7, h8, h9⟩
    refine ⟨tp, fun h hh => ?_⟩
    have := loop_rel (fun q (o : Option Int64) i => fX19_told_b7 nf T N I L R q p (ii h) st (o.getD (-4000000000)) (ii i)) (fun i o => o = rngF (lawS hd sd td h (L va)) i 0 none ∧ o ≠ some (-4000000000)) nl (fun o => some (o.getD (-4000000000))) ?_ ?_ nl 0 none nf (by omega) (by omega) ⟨rfl, fun h => by cases h⟩
    · obtain ⟨o, e1, e2, e3⟩ := this
      unfold lawD
      rw [← e2]
      exact ⟨e3, e1⟩
    · rintro q o i hi ⟨o1, o2⟩
      obtain ⟨z, z1, z2⟩ := hc i hi
      obtain ⟨t1, t2, t3, t4⟩ := z2.tells hA hS hb
      rw [← eR] at z1
      have hd3 := z2.2.2.2.2.1
      refine ⟨lawS hd sd td h (L va) i o, ?_, ?_, ?_⟩
      · show fX19_told_b7 nf T N I L R (q + 1) p (ii h) st (o.getD (-4000000000)) (ii i) = fX19_told_b7 nf T N I L R q p (ii h) st ((lawS hd sd td h (L va) i o).getD (-4000000000)) (ii (i + 1))
        rw [fX19_told_b7]
        unfold lawS
        by_cases c : hd i = h
        · rw [if_pos c]
          rw [c] at t2
          cases hv : clV (hd i) (sd i) (td i) (L va) with
          | none =>
            rw [hv] at t4
            simp (disch := omega) only [↓nm_v, ↓tg, ↓rA, ↓chk_if, ↓reduceIte, inb_ii, ii_nat, ii_add, and_self, bi_zb, if_bi, if_bi1, ii_leT, ii_leF, ii_ltT, ii_ltF, ii_eqF, ii_m1F, tp, ↓sb r0, lT, ↓bn_of (lst_size hL'), ↓bn_of (lst_get hL' hi z1), t1, t2, ↓bn_of t4, Option.getD_none, Option.none_or]
          | some x =>
            rw [hv] at t4 t3
            have c3 : ¬ x = -4000000000 := fun e => t3 (by rw [e])
            simp (disch := omega) only [↓nm_v, ↓tg, ↓rA, ↓chk_if, ↓reduceIte, inb_ii, ii_nat, ii_add, and_self, bi_zb, if_bi, if_bi1, ii_leT, ii_leF, ii_ltT, ii_ltF, ii_eqF, ii_m1F, tp, ↓sb r0, lT, ↓bn_of (lst_size hL'), ↓bn_of (lst_get hL' hi z1), t1, t2, ↓bn_of t4, Option.getD_some, Option.some_or, c3]
        · rw [if_neg c]
          simp (disch := omega) only [↓nm_v, ↓tg, ↓rA, ↓chk_if, ↓reduceIte, inb_ii, ii_nat, ii_add, and_self, bi_zb, if_bi, if_bi1, ii_leT, ii_leF, ii_ltT, ii_ltF, ii_eqF, ii_m1F, tp, ↓sb r0, lT, ↓bn_of (lst_size hL'), ↓bn_of (lst_get hL' hi z1), t1, t2]
      · rw [rngF_s, ← o1]
      · unfold lawS
        split
        · cases hv : clV (hd i) (sd i) (td i) (L va) with
          | none => rw [Option.none_or]; exact o2
          | some x => rw [Option.some_or, ← hv]; exact t3
        · exact o2
    · rintro q o ⟨o1, o2⟩
      show fX19_told_b7 nf T N I L R (q + 1) p (ii h) st (o.getD (-4000000000)) (ii nl) = _
      rw [fX19_told_b7]
      simp (disch := omega) only [↓nm_v, ↓tg, ↓rA, ↓chk_if, ↓reduceIte, inb_ii, ii_nat, ii_add, and_self, bi_zb, if_bi, if_bi1, ii_leT, ii_leF, ii_ltT, ii_ltF, ii_eqF, ii_m1F, tp, ↓sb r0, lT, ↓bn_of (lst_size hL')]
end
