/-! PLAIN LAND, 11: truth as a number; ranges; rows of numbers by place -/
def bi (b : Bool) : Int32 := if b then ii 1 else ii 0
theorem bi_t : bi true = ii 1 := rfl
theorem bi_f : bi false = ii 0 := rfl
theorem bi_0 (b : Bool) : (bi b = ii 0) = (b = false) := by cases b <;> decide
theorem bi_1 (b : Bool) : (bi b = ii 1) = (b = true) := by cases b <;> decide
theorem bi_zb (b : Bool) : zb (bi b) = true := by cases b <;> decide
theorem if_bi {α : Type} (b : Bool) (x y : α) : (if bi b = ii 0 then x else y) = if b = true then y else x := by cases b <;> rfl
theorem if_bi1 {α : Type} (b : Bool) (x y : α) : (if bi b = ii 1 then x else y) = if b = true then x else y := by cases b <;> rfl
theorem ii_0 : (ii 0).toInt = 0 := by decide
theorem lt_int (x y : Int32) : (x < y) = (x.toInt < y.toInt) := propext Int32.lt_iff_toInt_lt
theorem le_int (x y : Int32) : (x ≤ y) = (x.toInt ≤ y.toInt) := propext Int32.le_iff_toInt_le
theorem ltL_int (x y : Int64) : (x < y) = (x.toInt < y.toInt) := propext Int64.lt_iff_toInt_lt
theorem leL_int (x y : Int64) : (x ≤ y) = (x.toInt ≤ y.toInt) := propext Int64.le_iff_toInt_le
/-- within -/
def rg (x : Int32) (lo hi : Int) : Bool := decide (lo ≤ x.toInt ∧ x.toInt ≤ hi)
theorem c_in (x y z : Int32) : fX0_in x y z = some (bi (rg x y.toInt z.toInt)) := by
  unfold fX0_in rg
  simp only [lt_int]
  by_cases h1 : x.toInt < y.toInt
  · rw [if_pos h1, show decide (y.toInt ≤ x.toInt ∧ x.toInt ≤ z.toInt) = false from decide_eq_false (by omega)]; rfl
  · by_cases h2 : z.toInt < x.toInt
    · rw [if_neg h1, if_pos h2, show decide (y.toInt ≤ x.toInt ∧ x.toInt ≤ z.toInt) = false from decide_eq_false (by omega)]; rfl
    · rw [if_neg h1, if_neg h2, show decide (y.toInt ≤ x.toInt ∧ x.toInt ≤ z.toInt) = true from decide_eq_true (by omega)]; rfl
theorem m_in (x : Int32) (y z : Int64) : fX5_in x.toInt64 y z = some (bi (rg x y.toInt z.toInt)) := by
  unfold fX5_in rg
  simp only [ltL_int, i64_int]
  by_cases h1 : x.toInt < y.toInt
  · rw [if_pos h1, show decide (y.toInt ≤ x.toInt ∧ x.toInt ≤ z.toInt) = false from decide_eq_false (by omega)]; rfl
  · by_cases h2 : z.toInt < x.toInt
    · rw [if_neg h1, if_pos h2, show decide (y.toInt ≤ x.toInt ∧ x.toInt ≤ z.toInt) = false from decide_eq_false (by omega)]; rfl
    · rw [if_neg h1, if_neg h2, show decide (y.toInt ≤ x.toInt ∧ x.toInt ≤ z.toInt) = true from decide_eq_true (by omega)]; rfl
theorem rg_t {x : Int32} {lo hi : Int} (h : rg x lo hi = true) : lo ≤ x.toInt ∧ x.toInt ≤ hi := of_decide_eq_true h
theorem rg_f {x : Int32} {lo hi : Int} (h : rg x lo hi = false) : ¬ (lo ≤ x.toInt ∧ x.toInt ≤ hi) := of_decide_eq_false h
theorem rg_ex {x : Int32} {hi : Nat} (h : rg x 0 hi = true) : ∃ k : Nat, x = ii k ∧ k ≤ hi ∧ k < 2147483648 := by
  obtain ⟨h1, h2⟩ := rg_t h
  obtain ⟨n, h3, h4, h5⟩ := ii_ex h1 h2
  exact ⟨n, h3, by omega, h5⟩
theorem rg_ii {n : Nat} {lo hi : Int} (h : n < 2147483648) : rg (ii n) lo hi = decide (lo ≤ (n : Int) ∧ (n : Int) ≤ hi) := by
  unfold rg
  rw [ii_toInt h]
theorem ii_m1' {n : Nat} (h : n < 2147483648) : (ii n - ii 1).toInt = (n : Int) - 1 := by
  by_cases q : n = 0
  · subst q; decide
  · rw [ii_sub (by omega), ii_toInt (by omega)]; omega
theorem jj_m1 {n : Nat} (h : n < 2147483648) : (jj n - jj 1).toInt = (n : Int) - 1 := by
  by_cases q : n = 0
  · subst q; decide
  · have h1 : jj n = jj (n - 1) + jj 1 := by
      unfold jj
      rw [← Int64.ofNat_add]
      congr 1
      omega
    rw [h1, Int64.add_sub_cancel, jj_toInt (by omega)]
    omega
theorem c_isCorner (x : Int32) : fX0_isCorner x = some (bi (rg x 0 7)) := by
  unfold fX0_isCorner
  rw [c_in, bn_e, bi_zb, chk_t]; rfl
theorem m_isCorner (x : Int32) : fX5_isCorner x = some (bi (rg x 0 7)) := by
  unfold fX5_isCorner
  rw [m_in, bn_e, bi_zb, chk_t]; rfl
/-- a loop that counts up, with what holds along -/
theorem loop_rel {α β : Type} (F : Nat → α → Nat → Option β) (Q : Nat → α → Prop) (n : Nat) (G : α → Option β)
    (hs : ∀ k x l, l < n → Q l x → ∃ x', F (k + 1) x l = F k x' (l + 1) ∧ Q (l + 1) x') (hf : ∀ k x, Q n x → F (k + 1) x n = G x) :
    ∀ (d l : Nat) (x : α) (k : Nat), l + d = n → d < k → Q l x → ∃ x', F k x l = G x' ∧ Q n x' := by
  intro d
  induction d with
  | zero =>
    intro l x k hl hk hp
    obtain ⟨k, rfl⟩ : ∃ k', k = k' + 1 := ⟨k - 1, by omega⟩
    have : l = n := by omega
    subst this
    exact ⟨x, hf k x hp, hp⟩
  | succ d ih =>
    intro l x k hl hk hp
    obtain ⟨k, rfl⟩ : ∃ k', k = k' + 1 := ⟨k - 1, by omega⟩
    obtain ⟨x', h1, h2⟩ := hs k x l (by omega) hp
    rw [h1]
    exact ih (l + 1) x' k (by omega) (by omega) h2
/-- a loop that counts up over a plain state, from 0 -/
theorem loop0 {α β : Type} (F : Nat → α → Nat → Option β) (f : Nat → α → α) (n : Nat) (fin : α → Option β)
    (hs : ∀ k x l, l < n → F (k + 1) x l = F k (f l x) (l + 1)) (hf : ∀ k x, F (k + 1) x n = fin x) {k : Nat} (hk : n < k) (x : α) : F k x 0 = fin (rngF f n 0 x) :=
  loop_up F f (fun _ _ => True) n fin (fun k x l h _ => ⟨hs k x l h, trivial⟩) (fun k x _ => hf k x) n 0 x k (by omega) hk trivial
theorem ii_leT {a b : Nat} (h : a ≤ b) (hb : b < 2147483648) : (ii a ≤ ii b) = True := eq_true ((ii_le (by omega) hb).mpr h)
theorem ii_leF {a b : Nat} (h : b < a) (ha : a < 2147483648) : (ii a ≤ ii b) = False := eq_false (fun q => by have := (ii_le ha (by omega)).mp q; omega)
theorem ii_ltT {a b : Nat} (h : a < b) (hb : b < 2147483648) : (ii a < ii b) = True := eq_true ((ii_lt (by omega) hb).mpr h)
theorem ii_ltF {a b : Nat} (h : b ≤ a) (ha : a < 2147483648) : (ii a < ii b) = False := eq_false (fun q => by have := (ii_lt ha (by omega)).mp q; omega)
theorem ii_eqF {a b : Nat} (h : a ≠ b) (ha : a < 2147483648) (hb : b < 2147483648) : (ii a = ii b) = False := eq_false (fun q => h ((ii_eq ha hb).mp q))
theorem ii_m1F {n : Nat} (h : n < 2147483648) : (ii n = (-1 : Int32)) = False := eq_false (ii_m1 h)
theorem ii_m2F {n : Nat} (h : n < 2147483648) : (ii n = (-2 : Int32)) = False := eq_false (fun q => by
  have h1 := congrArg Int32.toInt q
  rw [ii_toInt h, show (-2 : Int32).toInt = -2 by decide] at h1
  omega)
theorem ii_div {a b : Nat} (ha : a < 2147483648) (hb : b < 2147483648) : ii a / ii b = ii (a / b) := by
  have h1 : a / b < 2147483648 := Nat.lt_of_le_of_lt (Nat.div_le_self a b) ha
  rw [← Int32.toInt_inj, Int32.toInt_div, ii_toInt ha, ii_toInt hb, ii_toInt h1, ← Int.ofNat_tdiv]
  generalize a / b = q at h1 ⊢
  apply Int.bmod_eq_of_le <;> omega
theorem ii_rem {a b : Nat} (ha : a < 2147483648) (hb : b < 2147483648) : ii a - ii a / ii b * ii b = ii (a % b) := by
  rw [ii_div ha hb, ii_mul, ii_sub (Nat.div_mul_le_self a b)]
  congr 1
  have := Nat.div_add_mod a b
  rw [Nat.mul_comm] at this
  omega
theorem ii_min {a b : Nat} (ha : a < 2147483648) (hb : b < 2147483648) : (if ii a < ii b then ii a else ii b) = ii (min a b) := by
  by_cases h : a < b
  · rw [if_pos ((ii_lt ha hb).mpr h), show min a b = a by omega]
  · rw [if_neg (fun q => h ((ii_lt ha hb).mp q)), show min a b = b by omega]
theorem uI_sI (I : xI) (a k : Nat) (v : Int32) (x : Nat → Int32) : uI (sI I a x) a k v = sI I a (upd x k v) := by
  funext b; unfold uI sI; by_cases q : b = a <;> simp [q]
theorem uL_sL (L : xL) (a k : Nat) (v : Int64) (x : Nat → Int64) : uL (sL L a x) a k v = sL L a (vp_updL x k v) := by
  funext b; unfold uL sL; by_cases q : b = a <;> simp [q]
/-- the first places of an array, told by numbers -/
def arN (n : Nat) (x : Nat → Int32) (d : Nat → Nat) : Prop := ∀ j, j < n → x j = ii (d j)
theorem arN_upd {n : Nat} {x : Nat → Int32} {d : Nat → Nat} (h : arN n x d) (t v : Nat) : arN n (upd x t (ii v)) (updN d t v) := by
  intro j hj
  rw [upd_at, updN_at]
  split
  · rfl
  · exact h j hj
theorem rngF_0 {α : Type} (f : Nat → α → α) (l : Nat) (x : α) : rngF f 0 l x = x := rfl
theorem rngF_s {α : Type} (f : Nat → α → α) (d : Nat) (x : α) : rngF f (d + 1) 0 x = f d (rngF f d 0 x) := by rw [rngF_last, Nat.zero_add]
theorem rngF_ci {α : Type} {f g : Nat → α → α} {n : Nat} (P : Nat → α → Prop) (h : ∀ l x, l < n → P l x → f l x = g l x ∧ P (l + 1) (g l x)) : ∀ (d l : Nat) (x : α), l + d = n → P l x → rngF f d l x = rngF g d l x := by
  intro d
  induction d with
  | zero => intro l x _ _; rfl
  | succ d ih =>
    intro l x hl hp
    obtain ⟨h1, h2⟩ := h l x (by omega) hp
    show rngF f d (l + 1) (f l x) = rngF g d (l + 1) (g l x)
    rw [h1]
    exact ih (l + 1) (g l x) (by omega) h2
theorem c_i0_1 (x : Int32) : fX0_in x (ii 0) (ii 1) = some (bi (rg x 0 1)) := c_in x (ii 0) (ii 1)
theorem m_i0_1 (x : Int32) : fX5_in x.toInt64 (jj 0) (jj 1) = some (bi (rg x 0 1)) := m_in x (jj 0) (jj 1)
theorem c_i0_2 (x : Int32) : fX0_in x (ii 0) (ii 2) = some (bi (rg x 0 2)) := c_in x (ii 0) (ii 2)
theorem m_i0_2 (x : Int32) : fX5_in x.toInt64 (jj 0) (jj 2) = some (bi (rg x 0 2)) := m_in x (jj 0) (jj 2)
theorem c_i0_3 (x : Int32) : fX0_in x (ii 0) (ii 3) = some (bi (rg x 0 3)) := c_in x (ii 0) (ii 3)
theorem m_i0_3 (x : Int32) : fX5_in x.toInt64 (jj 0) (jj 3) = some (bi (rg x 0 3)) := m_in x (jj 0) (jj 3)
theorem c_i0_4 (x : Int32) : fX0_in x (ii 0) (ii 4) = some (bi (rg x 0 4)) := c_in x (ii 0) (ii 4)
theorem m_i0_4 (x : Int32) : fX5_in x.toInt64 (jj 0) (jj 4) = some (bi (rg x 0 4)) := m_in x (jj 0) (jj 4)
theorem c_i1_9 (x : Int32) : fX0_in x (ii 1) (ii 9) = some (bi (rg x 1 9)) := c_in x (ii 1) (ii 9)
theorem m_i1_9 (x : Int32) : fX5_in x.toInt64 (jj 1) (jj 9) = some (bi (rg x 1 9)) := m_in x (jj 1) (jj 9)
theorem c_i0_9 (x : Int32) : fX0_in x (ii 0) (ii 9) = some (bi (rg x 0 9)) := c_in x (ii 0) (ii 9)
theorem m_i0_9 (x : Int32) : fX5_in x.toInt64 (jj 0) (jj 9) = some (bi (rg x 0 9)) := m_in x (jj 0) (jj 9)
theorem c_i0_10 (x : Int32) : fX0_in x (ii 0) (ii 10) = some (bi (rg x 0 10)) := c_in x (ii 0) (ii 10)
theorem m_i0_10 (x : Int32) : fX5_in x.toInt64 (jj 0) (jj 10) = some (bi (rg x 0 10)) := m_in x (jj 0) (jj 10)
theorem c_i0_999 (x : Int32) : fX0_in x (ii 0) (ii 999) = some (bi (rg x 0 999)) := c_in x (ii 0) (ii 999)
theorem m_i0_999 (x : Int32) : fX5_in x.toInt64 (jj 0) (jj 999) = some (bi (rg x 0 999)) := m_in x (jj 0) (jj 999)
theorem c_i0_19 (x : Int32) : fX0_in x (ii 0) (ii 19) = some (bi (rg x 0 19)) := c_in x (ii 0) (ii 19)
theorem m_i0_19 (x : Int32) : fX5_in x.toInt64 (jj 0) (jj 19) = some (bi (rg x 0 19)) := m_in x (jj 0) (jj 19)
theorem c_i0_50 (x : Int32) : fX0_in x (ii 0) (ii 50) = some (bi (rg x 0 50)) := c_in x (ii 0) (ii 50)
theorem m_i0_50 (x : Int32) : fX5_in x.toInt64 (jj 0) (jj 50) = some (bi (rg x 0 50)) := m_in x (jj 0) (jj 50)
theorem c_i0_60 (x : Int32) : fX0_in x (ii 0) (ii 60) = some (bi (rg x 0 60)) := c_in x (ii 0) (ii 60)
theorem m_i0_60 (x : Int32) : fX5_in x.toInt64 (jj 0) (jj 60) = some (bi (rg x 0 60)) := m_in x (jj 0) (jj 60)
theorem c_i1_20 (x : Int32) : fX0_in x (ii 1) (ii 20) = some (bi (rg x 1 20)) := c_in x (ii 1) (ii 20)
theorem m_i1_20 (x : Int32) : fX5_in x.toInt64 (jj 1) (jj 20) = some (bi (rg x 1 20)) := m_in x (jj 1) (jj 20)
theorem c_i0_99 (x : Int32) : fX0_in x (ii 0) (ii 99) = some (bi (rg x 0 99)) := c_in x (ii 0) (ii 99)
theorem m_i0_99 (x : Int32) : fX5_in x.toInt64 (jj 0) (jj 99) = some (bi (rg x 0 99)) := m_in x (jj 0) (jj 99)
theorem c_i1_60 (x : Int32) : fX0_in x (ii 1) (ii 60) = some (bi (rg x 1 60)) := c_in x (ii 1) (ii 60)
theorem m_i1_60 (x : Int32) : fX5_in x.toInt64 (jj 1) (jj 60) = some (bi (rg x 1 60)) := m_in x (jj 1) (jj 60)
theorem c_i0_1000000 (x : Int32) : fX0_in x (ii 0) (ii 1000000) = some (bi (rg x 0 1000000)) := c_in x (ii 0) (ii 1000000)
theorem m_i0_1000000 (x : Int32) : fX5_in x.toInt64 (jj 0) (jj 1000000) = some (bi (rg x 0 1000000)) := m_in x (jj 0) (jj 1000000)
