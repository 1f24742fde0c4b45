/-! PLAIN LAND, 5: ways by names heard: every step is linear, and alike both ways -/
def wyS (A B : Nat → Nat) (on : Nat → Bool) (v : Nat → Nat) (l : Nat) (x : Nat → Nat) : Nat → Nat :=
  if on l then updN (updN x (B l) (x (B l) + v (A l))) (A l) (updN x (B l) (x (B l) + v (A l)) (A l) + v (B l)) else x
def wyT (A B : Nat → Nat) (on : Nat → Bool) (n : Nat) (v : Nat → Nat) : Nat → Nat := rngF (wyS A B on v) n 0 (fun _ => 0)
/-- what one lane adds at a corner -/
def wyE (A B : Nat → Nat) (on : Nat → Bool) (v : Nat → Nat) (l c : Nat) : Nat := if on l then (if c = B l then v (A l) else 0) + (if c = A l then v (B l) else 0) else 0
def smN (f : Nat → Nat) (n : Nat) : Nat := rngF (fun i x => x + f i) n 0 0
theorem smN_succ (f : Nat → Nat) (n : Nat) : smN f (n + 1) = smN f n + f n := by
  unfold smN
  rw [rngF_last, Nat.zero_add]
theorem smN_congr {f g : Nat → Nat} {n : Nat} (h : ∀ i, i < n → f i = g i) : smN f n = smN g n := by
  induction n with
  | zero => rfl
  | succ n ih => rw [smN_succ, smN_succ, ih (fun i hi => h i (by omega)), h n (by omega)]
theorem smN_add (f g : Nat → Nat) (n : Nat) : smN (fun i => f i + g i) n = smN f n + smN g n := by
  induction n with
  | zero => rfl
  | succ n ih => rw [smN_succ, smN_succ, smN_succ, ih]; omega
theorem smN_zero (n : Nat) : smN (fun _ => 0) n = 0 := by
  induction n with
  | zero => rfl
  | succ n ih => rw [smN_succ, ih]
theorem smN_mul (a : Nat) (f : Nat → Nat) (n : Nat) : smN (fun i => a * f i) n = a * smN f n := by
  induction n with
  | zero => rfl
  | succ n ih => rw [smN_succ, smN_succ, ih, Nat.mul_add]
theorem smN_swap (f : Nat → Nat → Nat) (n m : Nat) : smN (fun i => smN (fun j => f i j) m) n = smN (fun j => smN (fun i => f i j) n) m := by
  induction n with
  | zero =>
    show 0 = smN (fun _ => 0) m
    rw [smN_zero]
  | succ n ih =>
    rw [smN_succ, ih, ← smN_add]
    apply smN_congr
    intro j _
    rw [smN_succ]
theorem smN_one {f : Nat → Nat} {n k : Nat} (hk : k < n) : smN (fun i => if i = k then f i else 0) n = f k := by
  induction n with
  | zero => omega
  | succ n ih =>
    rw [smN_succ]
    by_cases q : k = n
    · subst q
      rw [if_pos rfl, smN_congr (g := fun _ => 0) (fun i hi => if_neg (by omega)), smN_zero]
      omega
    · rw [ih (by omega), if_neg (by omega)]
      omega
theorem smN_pos {f : Nat → Nat} {n : Nat} : 0 < smN f n ↔ ∃ i, i < n ∧ 0 < f i := by
  induction n with
  | zero =>
    constructor
    · intro h; exact absurd h (Nat.lt_irrefl 0)
    · rintro ⟨i, hi, _⟩; omega
  | succ n ih =>
    rw [smN_succ]
    constructor
    · intro h
      by_cases q : 0 < smN f n
      · obtain ⟨i, hi, h1⟩ := ih.mp q
        exact ⟨i, by omega, h1⟩
      · exact ⟨n, by omega, by omega⟩
    · rintro ⟨i, hi, h1⟩
      by_cases q : i = n
      · subst q; omega
      · have := ih.mpr ⟨i, by omega, h1⟩
        omega
theorem smN_le {f : Nat → Nat} {n m : Nat} (h : ∀ i, i < n → f i ≤ m) : smN f n ≤ n * m := by
  induction n with
  | zero => exact Nat.zero_le _
  | succ n ih =>
    have h1 := ih (fun i hi => h i (by omega))
    have h2 := h n (by omega)
    rw [smN_succ, Nat.succ_mul]
    omega
theorem wy_at {A B : Nat → Nat} (on : Nat → Bool) (v : Nat → Nat) {n : Nat} (hne : ∀ l, l < n → A l ≠ B l) (c : Nat) : wyT A B on n v c = smN (fun l => wyE A B on v l c) n := by
  induction n with
  | zero => rfl
  | succ n ih =>
    rw [smN_succ, ← ih (fun l h => hne l (by omega))]
    unfold wyT
    rw [rngF_last, Nat.zero_add]
    have h1 := hne n (by omega)
    unfold wyS wyE
    cases on n with
    | false => simp
    | true =>
      simp only [if_true, updN_at]
      by_cases q1 : c = A n
      · subst q1
        simp [h1]
      · by_cases q2 : c = B n
        · subst q2
          simp [q1]
        · simp [q1, q2]
theorem wyE_add (A B : Nat → Nat) (on : Nat → Bool) (u v : Nat → Nat) (l c : Nat) : wyE A B on (fun i => u i + v i) l c = wyE A B on u l c + wyE A B on v l c := by
  simp only [wyE]
  (repeat' split) <;> omega
/-- the step of a sum over the starts -/
theorem wy_sum {A B : Nat → Nat} (on : Nat → Bool) {n : Nat} (hne : ∀ l, l < n → A l ≠ B l) (v : Nat → Nat → Nat) (m : Nat) (c : Nat) :
    wyT A B on n (fun i => smN (fun k => v k i) m) c = smN (fun k => wyT A B on n (v k) c) m := by
  induction m with
  | zero =>
    rw [wy_at on _ hne]
    show smN (fun l => wyE A B on (fun _ => 0) l c) n = 0
    rw [smN_congr (g := fun _ => 0) (fun i _ => by unfold wyE; cases on i <;> simp), smN_zero]
  | succ m ih =>
    rw [smN_succ, ← ih, wy_at on _ hne, wy_at on _ hne, wy_at on _ hne, ← smN_add]
    apply smN_congr
    intro l _
    rw [← wyE_add]
    congr 1
    funext i
    rw [smN_succ]
theorem smN_E {A B : Nat → Nat} (on : Nat → Bool) (u v : Nat → Nat) {l m : Nat} (hA : A l < m) (hB : B l < m) :
    smN (fun c => u c * wyE A B on v l c) m = if on l then u (B l) * v (A l) + u (A l) * v (B l) else 0 := by
  unfold wyE
  cases on l with
  | false =>
    show smN (fun c => u c * 0) m = 0
    rw [smN_congr (g := fun _ => 0) (fun i _ => Nat.mul_zero _), smN_zero]
  | true =>
    show smN (fun c => u c * ((if c = B l then v (A l) else 0) + (if c = A l then v (B l) else 0))) m = u (B l) * v (A l) + u (A l) * v (B l)
    rw [← smN_one (f := fun c => u c * v (A l)) hB, ← smN_one (f := fun c => u c * v (B l)) hA, ← smN_add]
    apply smN_congr
    intro c _
    show u c * ((if c = B l then v (A l) else 0) + (if c = A l then v (B l) else 0)) = (if c = B l then u c * v (A l) else 0) + (if c = A l then u c * v (B l) else 0)
    split <;> split <;> simp only [Nat.mul_add, Nat.mul_zero, Nat.add_zero, Nat.zero_add]
/-- alike both ways -/
theorem wy_adj {A B : Nat → Nat} (on : Nat → Bool) {n : Nat} (hne : ∀ l, l < n → A l ≠ B l) (hA : ∀ l, l < n → A l < 8) (hB : ∀ l, l < n → B l < 8) (u v : Nat → Nat) :
    smN (fun c => u c * wyT A B on n v c) 8 = smN (fun c => wyT A B on n u c * v c) 8 := by
  have e1 : smN (fun c => u c * wyT A B on n v c) 8 = smN (fun l => if on l then u (B l) * v (A l) + u (A l) * v (B l) else 0) n := by
    rw [smN_congr (g := fun c => smN (fun l => u c * wyE A B on v l c) n) (fun c _ => by rw [wy_at on v hne, smN_mul]), smN_swap]
    exact smN_congr (fun l hl => smN_E on u v (hA l hl) (hB l hl))
  have e2 : smN (fun c => wyT A B on n u c * v c) 8 = smN (fun l => if on l then v (B l) * u (A l) + v (A l) * u (B l) else 0) n := by
    rw [smN_congr (g := fun c => smN (fun l => v c * wyE A B on u l c) n) (fun c _ => by rw [wy_at on u hne, smN_mul, Nat.mul_comm]), smN_swap]
    exact smN_congr (fun l hl => smN_E on v u (hA l hl) (hB l hl))
  rw [e1, e2]
  apply smN_congr
  intro l _
  cases on l
  · rfl
  · show u (B l) * v (A l) + u (A l) * v (B l) = v (B l) * u (A l) + v (A l) * u (B l)
    rw [Nat.mul_comm (v (B l)), Nat.mul_comm (v (A l))]
    omega
/-- no entry grows past ten times the most -/
theorem wy_le {A B : Nat → Nat} (on : Nat → Bool) {n m : Nat} (hn : n ≤ 10) (hne : ∀ l, l < n → A l ≠ B l) {v : Nat → Nat} (hA : ∀ l, l < n → A l < 8) (hB : ∀ l, l < n → B l < 8) (h : ∀ c, c < 8 → v c ≤ m) (c : Nat) : wyT A B on n v c ≤ 10 * m := by
  rw [wy_at on v hne]
  refine Nat.le_trans (smN_le (m := m) ?_) (Nat.mul_le_mul_right m hn)
  intro l hl
  have h1 := h _ (hA l hl)
  have h2 := h _ (hB l hl)
  have h3 := hne l hl
  unfold wyE
  cases on l
  · exact Nat.zero_le _
  · show (if c = B l then v (A l) else 0) + (if c = A l then v (B l) else 0) ≤ m
    by_cases q1 : c = B l
    · rw [if_pos q1, if_neg (by omega)]
      omega
    · rw [if_neg q1]
      split <;> omega
/-- the names on, one after the other, from l on -/
def wyF (A B : Nat → Nat) (on : Nat → Nat → Bool) (n : Nat) : Nat → Nat → (Nat → Nat) → Nat → Nat := rngF (fun i v => wyT A B (on i) n v)
theorem wyF_sum {A B : Nat → Nat} (on : Nat → Nat → Bool) {n : Nat} (hne : ∀ l, l < n → A l ≠ B l) (h m : Nat) (v : Nat → Nat → Nat) (l : Nat) :
    ∀ c, wyF A B on n h l (fun i => smN (fun k => v k i) m) c = smN (fun k => wyF A B on n h l (v k) c) m := by
  induction h generalizing l v with
  | zero => intro c; rfl
  | succ h ih =>
    intro c
    show wyF A B on n h (l + 1) (wyT A B (on l) n (fun i => smN (fun k => v k i) m)) c = _
    have e : wyT A B (on l) n (fun i => smN (fun k => v k i) m) = fun i => smN (fun k => wyT A B (on l) n (v k) i) m := by
      funext i
      exact wy_sum (on l) hne v m i
    rw [e, ih (fun k => wyT A B (on l) n (v k)) (l + 1) c]
    rfl
/-- forwards from v, seen by u, is backwards from u, seen by v -/
theorem wyF_adj {A B : Nat → Nat} (on : Nat → Nat → Bool) {n : Nat} (hne : ∀ l, l < n → A l ≠ B l) (hA : ∀ l, l < n → A l < 8) (hB : ∀ l, l < n → B l < 8) (h : Nat) (u v : Nat → Nat) :
    smN (fun c => u c * wyF A B on n h 0 v c) 8 = smN (fun c => wyF A B (fun i => on (h - 1 - i)) n h 0 u c * v c) 8 := by
  induction h generalizing u v with
  | zero => rfl
  | succ h ih =>
    have e1 : wyF A B on n (h + 1) 0 v = wyT A B (on h) n (wyF A B on n h 0 v) := by
      unfold wyF
      rw [rngF_last, Nat.zero_add]
    rw [e1, wy_adj (on h) hne hA hB, ih]
    apply smN_congr
    intro c _
    congr 1
    have e2 : wyF A B (fun i => on (h + 1 - 1 - i)) n (h + 1) 0 u = wyF A B (fun i => on (h + 1 - 1 - i)) n h 1 (wyT A B (on (h + 1 - 1 - 0)) n u) := rfl
    rw [e2]
    have e3 : ∀ (d l : Nat) (x : Nat → Nat), wyF A B (fun i => on (h - 1 - i)) n d l x = wyF A B (fun i => on (h + 1 - 1 - i)) n d (l + 1) x := by
      intro d
      induction d with
      | zero => intro l x; rfl
      | succ d ihd =>
        intro l x
        show wyF A B (fun i => on (h - 1 - i)) n d (l + 1) (wyT A B (on (h - 1 - l)) n x) = wyF A B (fun i => on (h + 1 - 1 - i)) n d (l + 1 + 1) (wyT A B (on (h + 1 - 1 - (l + 1))) n x)
        rw [ihd, show h - 1 - l = h + 1 - 1 - (l + 1) by omega]
    rw [e3]
    show _ = wyF A B (fun i => on (h + 1 - 1 - i)) n h 1 (wyT A B (on (h + 1 - 1 - 0)) n u) c
    rw [show h + 1 - 1 - 0 = h by omega]
theorem wyF_le {A B : Nat → Nat} (on : Nat → Nat → Bool) {n : Nat} (hn : n ≤ 10) (hne : ∀ l, l < n → A l ≠ B l) (hA : ∀ l, l < n → A l < 8) (hB : ∀ l, l < n → B l < 8) {v : Nat → Nat} (hv : ∀ c, c < 8 → v c ≤ 1) :
    ∀ (h l : Nat), ∀ c, c < 8 → wyF A B on n h l v c ≤ 10 ^ h := by
  intro h
  induction h with
  | zero => intro l c hc; exact hv c hc
  | succ h ih =>
    intro l c hc
    have e1 : wyF A B on n (h + 1) l v = wyT A B (on (l + h)) n (wyF A B on n h l v) := by
      unfold wyF
      rw [rngF_last]
    rw [e1, Nat.pow_succ, Nat.mul_comm]
    exact wy_le (on (l + h)) hn hne hA hB (fun c hc => ih l c hc) c
