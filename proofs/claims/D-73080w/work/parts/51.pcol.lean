/-! PLAIN LAND, 4: lanes that meet told apart by numbers; the least such row; numbers that never leave one out -/
def mt (A B : Nat → Nat) (i j : Nat) : Bool := (decide (A i = A j) || decide (B i = A j)) || (decide (A i = B j) || decide (B i = B j))
def Qc (A B : Nat → Nat) (n many : Nat) (c : Nat → Nat) : Prop := ∀ i, i < n → c i < many ∧ ∀ j, j < i → c j ≠ c i ∨ mt A B j i = false
def lexlt (n : Nat) (c' c : Nat → Nat) : Prop := ∃ k, k < n ∧ (∀ i, i < k → c' i = c i) ∧ c' k < c k
def leastC (Q : (Nat → Nat) → Prop) (n lane : Nat) (pre c : Nat → Nat) : Prop := Q c ∧ (∀ i, i < lane → c i = pre i) ∧ ∀ c', Q c' → (∀ i, i < lane → c' i = pre i) → ¬ lexlt n c' c
theorem lex_eq {n : Nat} {c d : Nat → Nat} (h1 : ¬ lexlt n c d) (h2 : ¬ lexlt n d c) : ∀ i, i < n → c i = d i := by
  intro i
  induction i using Nat.strongRecOn with
  | _ i ih =>
    intro hi
    by_cases q : c i < d i
    · exact absurd ⟨i, hi, fun j hj => ih j hj (by omega), q⟩ h1
    · by_cases q2 : d i < c i
      · exact absurd ⟨i, hi, fun j hj => (ih j hj (by omega)).symm, q2⟩ h2
      · omega
/-- one number more than those ahead have -/
def nAS (c : Nat → Nat) (i x : Nat) : Nat := if x ≤ c i then c i + 1 else x
def nA (c : Nat → Nat) (k : Nat) : Nat := rngF (nAS c) k 0 0
theorem nA_succ (c : Nat → Nat) (k : Nat) : nA c (k + 1) = nAS c k (nA c k) := by
  unfold nA
  rw [rngF_last, Nat.zero_add]
theorem nA_lt {c : Nat → Nat} {k i : Nat} (h : i < k) : c i < nA c k := by
  induction k with
  | zero => omega
  | succ k ih =>
    rw [nA_succ]
    unfold nAS
    by_cases q : i = k
    · subst q
      split <;> omega
    · have := ih (by omega)
      split <;> omega
theorem nA_le {c : Nat → Nat} {k a : Nat} (h : ∀ i, i < k → c i < a) : nA c k ≤ a := by
  induction k with
  | zero => exact Nat.zero_le _
  | succ k ih =>
    rw [nA_succ]
    unfold nAS
    have h1 := ih (fun i hi => h i (by omega))
    have h2 := h k (by omega)
    split <;> omega
theorem nA_congr {c d : Nat → Nat} {k : Nat} (h : ∀ i, i < k → c i = d i) : nA c k = nA d k := by
  induction k with
  | zero => rfl
  | succ k ih =>
    rw [nA_succ, nA_succ, ih (fun i hi => h i (by omega))]
    unfold nAS
    rw [h k (by omega)]
def sw (a b x : Nat) : Nat := if x = a then b else if x = b then a else x
theorem sw_ne {a b x y : Nat} (h : x ≠ y) : sw a b x ≠ sw a b y := by
  unfold sw
  (repeat' split) <;> omega
theorem sw_lt {a b x m : Nat} (ha : a < m) (hb : b < m) (hx : x < m) : sw a b x < m := by
  unfold sw
  split
  · exact hb
  · split
    · exact ha
    · exact hx
/-- the least row leaves no number out -/
theorem col_rg {A B : Nat → Nat} {n many : Nat} {pre c : Nat → Nat} (h : leastC (Qc A B n many) n 0 pre c) : ∀ i, i < n → c i ≤ nA c i := by
  intro k hk
  by_cases q : c k ≤ nA c k
  · exact q
  · exfalso
    obtain ⟨hQ, _, hl⟩ := h
    have hkm := (hQ k hk).1
    refine hl (fun i => sw (nA c k) (c k) (c i)) ?_ (fun i hi => by omega) ⟨k, hk, ?_, ?_⟩
    · intro i hi
      refine ⟨sw_lt (by omega) hkm (hQ i hi).1, fun j hj => ?_⟩
      rcases (hQ i hi).2 j hj with h1 | h1
      · exact Or.inl (sw_ne h1)
      · exact Or.inr h1
    · intro i hi
      have h1 := nA_lt (c := c) hi
      show sw (nA c k) (c k) (c i) = c i
      unfold sw
      rw [if_neg (by omega), if_neg (by omega)]
    · show sw (nA c k) (c k) (c k) < c k
      unfold sw
      rw [if_neg (by omega), if_pos rfl]
      omega
def Qr (A B : Nat → Nat) (n many : Nat) (c : Nat → Nat) : Prop := Qc A B n many c ∧ ∀ i, i < n → c i ≤ nA c i
theorem col_same {A B : Nat → Nat} {n many : Nat} {p1 p2 c d : Nat → Nat} (h1 : leastC (Qc A B n many) n 0 p1 c) (h2 : leastC (Qr A B n many) n 0 p2 d) : ∀ i, i < n → c i = d i := by
  refine lex_eq (h2.2.2 c ⟨h1.1, col_rg h1⟩ (fun i hi => by omega)) (h1.2.2 d h2.1.1 (fun i hi => by omega))
theorem col_id {A B : Nat → Nat} {n : Nat} : Qc A B n n (fun i => i) := fun i hi => ⟨hi, fun j hj => Or.inl (by show j ≠ i; omega)⟩
/-- a number more at this lane: what it fits, what it does not -/
theorem col_true {Q : (Nat → Nat) → Prop} {n lane k : Nat} {pre c : Nat → Nat} (hln : lane < n) (hno : ∀ c', Q c' → (∀ i, i < lane → c' i = pre i) → ¬ c' lane < k)
    (h : leastC Q n (lane + 1) (updN pre lane k) c) : leastC Q n lane pre c := by
  obtain ⟨h1, h2, h3⟩ := h
  have hp : ∀ i, i < lane → c i = pre i := by
    intro i hi
    have := h2 i (by omega)
    rw [updN_at, if_neg (by omega)] at this
    exact this
  have hk : c lane = k := by
    have := h2 lane (by omega)
    rw [updN_at, if_pos rfl] at this
    exact this
  refine ⟨h1, hp, fun c' hQ hc => ?_⟩
  rintro ⟨j, hj, hj1, hj2⟩
  by_cases q : c' lane = k
  · refine h3 c' hQ (fun i hi => ?_) ⟨j, hj, hj1, hj2⟩
    by_cases q2 : i = lane
    · rw [updN_at, if_pos q2, q2, q]
    · rw [updN_at, if_neg q2]
      exact hc i (by omega)
  · have h4 := hno c' hQ hc
    by_cases q3 : j < lane
    · rw [hc j q3, hp j q3] at hj2
      omega
    · by_cases q4 : j = lane
      · subst q4
        omega
      · have := hj1 lane (by omega)
        omega
theorem col_none {Q : (Nat → Nat) → Prop} {lane k : Nat} {pre : Nat → Nat} (hno : ∀ c', Q c' → (∀ i, i < lane → c' i = pre i) → ¬ c' lane < k)
    (h : ∀ c', Q c' → (∀ i, i < lane → c' i = pre i) → c' lane ≠ k) : ∀ c', Q c' → (∀ i, i < lane → c' i = pre i) → ¬ c' lane < k + 1 := by
  intro c' h1 h2
  have := hno c' h1 h2
  have := h c' h1 h2
  omega
theorem col_back {Q : (Nat → Nat) → Prop} {lane k : Nat} {pre : Nat → Nat} (h : ∀ c', Q c' → ¬ ∀ i, i < lane + 1 → c' i = updN pre lane k i) :
    ∀ c', Q c' → (∀ i, i < lane → c' i = pre i) → c' lane ≠ k := by
  intro c' h1 h2 h3
  refine h c' h1 (fun i hi => ?_)
  by_cases q : i = lane
  · rw [updN_at, if_pos q, q, h3]
  · rw [updN_at, if_neg q]
    exact h2 i (by omega)
