/-! PLAIN LAND, 1: small numbers; rows of the functions' combinators -/
theorem ii_toInt {n : Nat} (h : n < 2147483648) : (ii n).toInt = (n : Int) := Int32.toInt_ofNat_of_lt h
theorem ii_nat {n : Nat} (h : n < 2147483648) : (ii n).toNatClampNeg = n := by
  show ((ii n).toInt).toNat = n
  rw [ii_toInt h]
  rfl
theorem ii_add (a b : Nat) : ii a + ii b = ii (a + b) := (Int32.ofNat_add a b).symm
theorem ii_mul (a b : Nat) : ii a * ii b = ii (a * b) := (Int32.ofNat_mul a b).symm
theorem ii_sub {a b : Nat} (h : b ≤ a) : ii a - ii b = ii (a - b) := by
  have h1 : ii a = ii (a - b) + ii b := by rw [ii_add]; congr 1; omega
  rw [h1, Int32.add_sub_cancel]
theorem ii_lt {a b : Nat} (ha : a < 2147483648) (hb : b < 2147483648) : (ii a < ii b) ↔ a < b := by
  rw [Int32.lt_iff_toInt_lt, ii_toInt ha, ii_toInt hb]; omega
theorem ii_le {a b : Nat} (ha : a < 2147483648) (hb : b < 2147483648) : (ii a ≤ ii b) ↔ a ≤ b := by
  rw [Int32.le_iff_toInt_le, ii_toInt ha, ii_toInt hb]; omega
theorem ii_eq {a b : Nat} (ha : a < 2147483648) (hb : b < 2147483648) : (ii a = ii b) ↔ a = b := by
  rw [← Int32.toInt_inj, ii_toInt ha, ii_toInt hb]; omega
theorem m1_toInt : (-1 : Int32).toInt = -1 := by decide
theorem ii_m1 {n : Nat} (h : n < 2147483648) : ¬ ii n = (-1 : Int32) := by
  rw [← Int32.toInt_inj, ii_toInt h, m1_toInt]; omega
theorem ii_dec {n : Nat} (h : 1 ≤ n) : ii n + (-1 : Int32) = ii (n - 1) := by
  have h1 : ii n = ii (n - 1) + ii 1 := by rw [ii_add]; congr 1; omega
  rw [h1, Int32.add_assoc]
  show ii (n - 1) + ii 0 = _
  rw [ii_add]; rfl
theorem inb_ii {n m : Nat} (h : n < 2147483648) (hm : n < m) : inb (ii n) m = true := by
  unfold inb
  rw [ii_nat h]
  have h1 : ¬ ii n < 0 := by
    show ¬ ii n < ii 0
    rw [ii_lt h (by decide)]; omega
  simp [h1, hm]
theorem ii_of {x : Int32} (h : 0 ≤ x.toInt) : x = ii x.toNatClampNeg := by
  rw [← Int32.toInt_inj]
  have h1 : (x.toNatClampNeg : Int) = x.toInt := Int.toNat_of_nonneg h
  have h2 : x.toInt < 2147483648 := Int32.toInt_lt x
  rw [ii_toInt (by omega), h1]
theorem ii_ex {x : Int32} {m : Int} (h : 0 ≤ x.toInt) (h2 : x.toInt ≤ m) : ∃ n : Nat, x = ii n ∧ (n : Int) ≤ m ∧ n < 2147483648 := by
  have h1 : (x.toNatClampNeg : Int) = x.toInt := Int.toNat_of_nonneg h
  have h3 : x.toInt < 2147483648 := Int32.toInt_lt x
  exact ⟨_, ii_of h, by omega, by omega⟩
theorem jj_toInt {n : Nat} (h : n < 9223372036854775808) : (jj n).toInt = (n : Int) := Int64.toInt_ofNat_of_lt h
theorem ii_64 {n : Nat} (h : n < 2147483648) : (ii n).toInt64 = jj n := by
  rw [← Int64.toInt_inj, jj_toInt (by omega), Int32.toInt_toInt64, ii_toInt h]
theorem i64_int (x : Int32) : x.toInt64.toInt = x.toInt := Int32.toInt_toInt64 x
/-! the combinators -/
theorem nm_v {α β : Type} (e : α) (k : α → Option β) : nm e k = k e := rfl
theorem chk_t {β : Type} (k : Option β) : chk true k = k := rfl
theorem tg_t {β : Type} {T : xT} {t a : Nat} (h : T a = t) (k : Option β) : tg T t a k = k := if_pos h
theorem rA_t {β : Type} {T N : xT} {t a i : Nat} (h : T a = t) (hi : i < N a) (h2 : i < 2147483648) (k : Nat → Option β) : rA T N t a (ii i) k = k i := by
  unfold rA
  rw [if_pos ⟨h, inb_ii h2 hi⟩, ii_nat h2]
/-- at a lies an array of the tag t, of n places -/
def ar (T N : xT) (t a n : Nat) : Prop := T a = t ∧ N a = n ∧ n < 2147483648
theorem rA_ar {β : Type} {T N : xT} {t a n : Nat} (h : ar T N t a n) {i : Nat} (hi : i < n) (k : Nat → Option β) : rA T N t a (ii i) k = k i := rA_t h.1 (by rw [h.2.1]; exact hi) (by have := h.2.2; omega) k
theorem b2_e {α β γ : Type} (a : α) (b : β) (k : α → β → Option γ) : b2 (some (a, b)) k = k a b := rfl
theorem b3_e {α β γ δ : Type} (a : α) (b : β) (c : γ) (k : α → β → γ → Option δ) : b3 (some (a, b, c)) k = k a b c := rfl
theorem b4_e {α β γ δ ε : Type} (a : α) (b : β) (c : γ) (d : δ) (k : α → β → γ → δ → Option ε) : b4 (some (a, b, c, d)) k = k a b c d := rfl
theorem bn_e {α β : Type} (a : α) (k : α → Option β) : (some a).bind k = k a := rfl
theorem oc_n {β : Type} (kn : Option β) (ks : Nat → Option β) : oc none kn ks = kn := rfl
theorem oc_s' {β : Type} (a : Nat) (kn : Option β) (ks : Nat → Option β) : oc (some a) kn ks = ks a := rfl
theorem xc_l {α β : Type} (a : Nat) (kx : Nat → Option β) (kn : α → Option β) : xc (.inl a) kx kn = kx a := rfl
theorem xc_r {α β : Type} (v : α) (kx : Nat → Option β) (kn : α → Option β) : xc (.inr v) kx kn = kn v := rfl
theorem uI_ne {I : xI} {a k : Nat} {v : Int32} {b : Nat} (h : b ≠ a) : uI I a k v b = I b := by unfold uI; rw [if_neg h]
theorem uI_at (I : xI) (a k : Nat) (v : Int32) (j : Nat) : uI I a k v a j = if j = k then v else I a j := by
  unfold uI; rw [if_pos rfl]; rfl
theorem uI_hit (I : xI) (a k : Nat) (v : Int32) : uI I a k v a k = v := by rw [uI_at, if_pos rfl]
theorem uI_mis {I : xI} {a k : Nat} {v : Int32} {j : Nat} (h : j ≠ k) : uI I a k v a j = I a j := by rw [uI_at, if_neg h]
theorem uR_ne {R : xR} {a k : Nat} {v : Option Nat} {b : Nat} (h : b ≠ a) : uR R a k v b = R b := by unfold uR; rw [if_neg h]
theorem uR_at (R : xR) (a k : Nat) (v : Option Nat) (j : Nat) : uR R a k v a j = if j = k then v else R a j := by
  unfold uR; rw [if_pos rfl]; rfl
theorem uL_ne {L : xL} {a k : Nat} {v : Int64} {b : Nat} (h : b ≠ a) : uL L a k v b = L b := by unfold uL; rw [if_neg h]
theorem uL_at (L : xL) (a k : Nat) (v : Int64) (j : Nat) : uL L a k v a j = if j = k then v else L a j := by
  unfold uL; rw [if_pos rfl]; rfl
theorem uT_ne {T : xT} {a t b : Nat} (h : b ≠ a) : uT T a t b = T b := by unfold uT; rw [if_neg h]
theorem uT_at (T : xT) (a t : Nat) : uT T a t a = t := by unfold uT; rw [if_pos rfl]
theorem zb_0 : zb (ii 0) = true := by decide
theorem zb_1 : zb (ii 1) = true := by decide
