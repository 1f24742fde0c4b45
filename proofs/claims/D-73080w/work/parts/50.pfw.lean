/-! PLAIN LAND, 3: how far corners are (8 corners, F for far), by squares of numbers that get less -/
def updN (d : Nat → Nat) (t v : Nat) : Nat → Nat := fun j => if j = t then v else d j
theorem updN_at (d : Nat → Nat) (t v j : Nat) : updN d t v j = if j = t then v else d j := rfl
def fwZ (F : Nat) : Nat → Nat := fun j => if j / 8 = j % 8 then 0 else F
def fwL (A B W : Nat → Nat) (l : Nat) (d : Nat → Nat) : Nat → Nat :=
  updN (updN d (8 * A l + B l) (min (W l) (d (8 * A l + B l)))) (8 * B l + A l) (min (W l) (d (8 * A l + B l)))
def fwT (k t : Nat) (d : Nat → Nat) : Nat → Nat := updN d t (min (d (8 * (t / 8) + k) + d (8 * k + t % 8)) (d t))
def fwD (k : Nat) (d : Nat → Nat) : Nat → Nat := fun j => if j < 64 then min (d (8 * (j / 8) + k) + d (8 * k + j % 8)) (d j) else d j
theorem fw_in {k a b : Nat} (hb : b < 8) (ha : a < 8) (d : Nat → Nat) : fwD k d (8 * a + b) = min (d (8 * a + k) + d (8 * k + b)) (d (8 * a + b)) := by
  unfold fwD
  rw [if_pos (by omega), show (8 * a + b) / 8 = a by omega, show (8 * a + b) % 8 = b by omega]
/-- a round done place by place is the round done at once -/
theorem fw_stage {k : Nat} {d : Nat → Nat} (hk : k < 8) (h0 : d (8 * k + k) = 0) : rngF (fwT k) 64 0 d = fwD k d := by
  have hc : ∀ a, a < 8 → fwD k d (8 * a + k) = d (8 * a + k) := by
    intro a ha
    rw [fw_in hk ha, h0]
    omega
  have hr : ∀ b, b < 8 → fwD k d (8 * k + b) = d (8 * k + b) := by
    intro b hb
    rw [fw_in hb hk, h0]
    omega
  have h := rngF_inv (f := fwT k) (P := fun t x => x = fun j => if j < t then fwD k d j else d j) (n := 64) (by
    intro t x ht hx
    subst hx
    have e1 : (if 8 * (t / 8) + k < t then fwD k d (8 * (t / 8) + k) else d (8 * (t / 8) + k)) = d (8 * (t / 8) + k) := by
      split
      · exact hc _ (by omega)
      · rfl
    have e2 : (if 8 * k + t % 8 < t then fwD k d (8 * k + t % 8) else d (8 * k + t % 8)) = d (8 * k + t % 8) := by
      split
      · exact hr _ (by omega)
      · rfl
    funext j
    show (if j = t then min ((if 8 * (t / 8) + k < t then fwD k d (8 * (t / 8) + k) else d (8 * (t / 8) + k)) + (if 8 * k + t % 8 < t then fwD k d (8 * k + t % 8) else d (8 * k + t % 8))) (if t < t then fwD k d t else d t) else if j < t then fwD k d j else d j) = if j < t + 1 then fwD k d j else d j
    rw [e1, e2, if_neg (Nat.lt_irrefl t)]
    by_cases q : j = t
    · subst q
      rw [if_pos rfl, if_pos (by omega)]
      unfold fwD
      rw [if_pos ht]
    · rw [if_neg q]
      by_cases q2 : j < t
      · rw [if_pos q2, if_pos (by omega)]
      · rw [if_neg q2, if_neg (by omega)]) 64 0 d rfl (by funext j; simp)
  rw [h]
  funext j
  by_cases q : j < 64
  · show (if j < 64 then _ else _) = _
    rw [if_pos q]
  · show (if j < 64 then _ else _) = _
    rw [if_neg q]
    unfold fwD
    rw [if_neg q]
/-- how long the shortest of the first lanes between two corners is -/
def bet (A B : Nat → Nat) (a b l : Nat) : Prop := (A l = a ∧ B l = b) ∨ (A l = b ∧ B l = a)
def llS (A B W : Nat → Nat) (a b l x : Nat) : Nat := if (A l = a ∧ B l = b) ∨ (A l = b ∧ B l = a) then min (W l) x else x
def ll (F : Nat) (A B W : Nat → Nat) (n a b : Nat) : Nat := rngF (llS A B W a b) n 0 F
theorem ll_succ (F : Nat) (A B W : Nat → Nat) (n a b : Nat) : ll F A B W (n + 1) a b = llS A B W a b n (ll F A B W n a b) := by
  unfold ll
  rw [rngF_last, Nat.zero_add]
theorem ll_sym (F : Nat) (A B W : Nat → Nat) (n a b : Nat) : ll F A B W n a b = ll F A B W n b a := by
  unfold ll
  apply rngF_congr
  intro j x _ _
  unfold llS
  by_cases q : (A j = a ∧ B j = b) ∨ (A j = b ∧ B j = a)
  · rw [if_pos q, if_pos (Or.symm q)]
  · rw [if_neg q, if_neg (fun h => q (Or.symm h))]
theorem ll_le (F : Nat) (A B W : Nat → Nat) (n a b : Nat) : ll F A B W n a b ≤ F := by
  induction n with
  | zero => exact Nat.le_refl _
  | succ n ih => rw [ll_succ]; unfold llS; split <;> omega
theorem ll_lane {F : Nat} {A B W : Nat → Nat} {n l : Nat} (hl : l < n) : ll F A B W n (A l) (B l) ≤ W l := by
  induction n with
  | zero => omega
  | succ n ih =>
    rw [ll_succ]; unfold llS
    by_cases q : l = n
    · subst q
      rw [if_pos (Or.inl ⟨rfl, rfl⟩)]; omega
    · have := ih (by omega)
      split <;> omega
theorem ll_self {F : Nat} {A B W : Nat → Nat} {n : Nat} (hne : ∀ l, l < n → A l ≠ B l) (a : Nat) : ll F A B W n a a = F := by
  induction n with
  | zero => rfl
  | succ n ih =>
    rw [ll_succ, ih (fun l h => hne l (by omega))]; unfold llS
    have h1 := hne n (by omega)
    rw [if_neg (by omega)]
theorem ll_small {F : Nat} {A B W : Nat → Nat} {n : Nat} (hW : ∀ l, l < n → 1 ≤ W l ∧ W l ≤ 9) (a b : Nat) : ll F A B W n a b = F ∨ (1 ≤ ll F A B W n a b ∧ ll F A B W n a b ≤ 9 ∧ ∃ l, l < n ∧ ((A l = a ∧ B l = b) ∨ (A l = b ∧ B l = a)) ∧ W l = ll F A B W n a b) := by
  induction n with
  | zero => exact Or.inl rfl
  | succ n ih =>
    have h1 := ih (fun l h => hW l (by omega))
    have h2 := hW n (by omega)
    rw [ll_succ]; unfold llS
    by_cases q : (A n = a ∧ B n = b) ∨ (A n = b ∧ B n = a)
    · rw [if_pos q]
      by_cases q2 : W n ≤ ll F A B W n a b
      · right
        rw [show min (W n) (ll F A B W n a b) = W n by omega]
        exact ⟨h2.1, h2.2, n, by omega, q, rfl⟩
      · rw [show min (W n) (ll F A B W n a b) = ll F A B W n a b by omega]
        rcases h1 with h1 | ⟨h1, h3, l, hl, h4, h5⟩
        · exact Or.inl h1
        · exact Or.inr ⟨h1, h3, l, by omega, h4, h5⟩
    · rw [if_neg q]
      rcases h1 with h1 | ⟨h1, h3, l, hl, h4, h5⟩
      · exact Or.inl h1
      · exact Or.inr ⟨h1, h3, l, by omega, h4, h5⟩
theorem ll_two {F G : Nat} {A B W : Nat → Nat} {n : Nat} (hF : 9 < F) (hG : 9 < G) (hW : ∀ l, l < n → 1 ≤ W l ∧ W l ≤ 9) (a b : Nat) : (ll F A B W n a b = F ∧ ll G A B W n a b = G) ∨ (ll F A B W n a b = ll G A B W n a b ∧ ll F A B W n a b ≤ 9) := by
  induction n with
  | zero => exact Or.inl ⟨rfl, rfl⟩
  | succ n ih =>
    have h1 := ih (fun l h => hW l (by omega))
    have h2 := hW n (by omega)
    rw [ll_succ, ll_succ]; unfold llS
    split
    · right; omega
    · exact h1
/-- the square ahead of the rounds -/
theorem fw_init {F : Nat} {A B W : Nat → Nat} {n : Nat} (hA : ∀ l, l < n → A l < 8) (hB : ∀ l, l < n → B l < 8) (hne : ∀ l, l < n → A l ≠ B l) {a b : Nat} (ha : a < 8) (hb : b < 8) :
    rngF (fwL A B W) n 0 (fwZ F) (8 * a + b) = if a = b then 0 else ll F A B W n a b := by
  induction n generalizing a b with
  | zero =>
    show fwZ F (8 * a + b) = _
    unfold fwZ
    rw [show (8 * a + b) / 8 = a by omega, show (8 * a + b) % 8 = b by omega]
    rfl
  | succ n ih =>
    have ih := @ih (fun l h => hA l (by omega)) (fun l h => hB l (by omega)) (fun l h => hne l (by omega))
    have h1 := hA n (by omega)
    have h2 := hB n (by omega)
    have h3 := hne n (by omega)
    rw [rngF_last, Nat.zero_add, ll_succ]
    have e := ih h1 h2
    rw [if_neg h3] at e
    have e2 := ih ha hb
    show (if 8 * a + b = 8 * B n + A n then min (W n) (rngF (fwL A B W) n 0 (fwZ F) (8 * A n + B n)) else if 8 * a + b = 8 * A n + B n then min (W n) (rngF (fwL A B W) n 0 (fwZ F) (8 * A n + B n)) else rngF (fwL A B W) n 0 (fwZ F) (8 * a + b)) = _
    rw [e, e2]
    unfold llS
    by_cases q1 : a = B n ∧ b = A n
    · obtain ⟨rfl, rfl⟩ := q1
      rw [if_pos rfl, if_neg (fun h => h3 h.symm), if_pos (Or.inr ⟨rfl, rfl⟩), ll_sym]
    · rw [if_neg (by omega)]
      by_cases q2 : a = A n ∧ b = B n
      · obtain ⟨rfl, rfl⟩ := q2
        rw [if_pos rfl, if_neg h3, if_pos (Or.inl ⟨rfl, rfl⟩)]
      · rw [if_neg (show ¬ (8 * a + b = 8 * A n + B n) by omega), if_neg (show ¬ ((A n = a ∧ B n = b) ∨ (A n = b ∧ B n = a)) by omega)]
/-- after some rounds: no more than F, none to itself, both ways alike, by the corners of the rounds no nearer; a first lane leads on -/
def fwOK (F : Nat) (A B W : Nat → Nat) (n k : Nat) (d : Nat → Nat) : Prop :=
  (∀ a b, a < 8 → b < 8 → d (8 * a + b) ≤ F) ∧ (∀ a, a < 8 → d (8 * a + a) = 0) ∧ (∀ a b, a < 8 → b < 8 → d (8 * a + b) = d (8 * b + a)) ∧
  (∀ a b j, a < 8 → b < 8 → j < k → d (8 * a + b) ≤ d (8 * a + j) + d (8 * j + b)) ∧
  (∀ a b, a < 8 → b < 8 → a ≠ b → d (8 * a + b) ≤ ll F A B W n a b) ∧
  (∀ a b, a < 8 → b < 8 → a ≠ b → d (8 * a + b) < F → ∃ x, x < 8 ∧ ll F A B W n a x < F ∧ ll F A B W n a x + d (8 * x + b) ≤ d (8 * a + b))
theorem fw_ok0 {F : Nat} {A B W : Nat → Nat} {n : Nat} (hA : ∀ l, l < n → A l < 8) (hB : ∀ l, l < n → B l < 8) (hne : ∀ l, l < n → A l ≠ B l) : fwOK F A B W n 0 (rngF (fwL A B W) n 0 (fwZ F)) := by
  have e := @fw_init F A B W n hA hB hne
  refine ⟨?_, ?_, ?_, ?_, ?_, ?_⟩
  · intro a b ha hb
    rw [e ha hb]
    split
    · omega
    · exact ll_le _ _ _ _ _ _ _
  · intro a ha
    rw [e ha ha, if_pos rfl]
  · intro a b ha hb
    rw [e ha hb, e hb ha]
    by_cases q : a = b
    · rw [if_pos q, if_pos q.symm]
    · rw [if_neg q, if_neg (fun h => q h.symm), ll_sym]
  · intro a b j _ _ h
    omega
  · intro a b ha hb q
    rw [e ha hb, if_neg q]
    exact Nat.le_refl _
  · intro a b ha hb q h
    rw [e ha hb, if_neg q] at h
    refine ⟨b, hb, h, ?_⟩
    rw [e hb hb, e ha hb, if_pos rfl, if_neg q]
    exact Nat.le_refl _
theorem fw_ok1 {F : Nat} {A B W : Nat → Nat} {n k : Nat} {d : Nat → Nat} (hk : k < 8) (h : fwOK F A B W n k d) : fwOK F A B W n (k + 1) (fwD k d) := by
  obtain ⟨h1, h2, h3, h4, h5, h6⟩ := h
  refine ⟨?_, ?_, ?_, ?_, ?_, ?_⟩
  · intro a b ha hb
    rw [fw_in hb ha]
    have := h1 a b ha hb
    omega
  · intro a ha
    rw [fw_in ha ha, h2 a ha]
    omega
  · intro a b ha hb
    rw [fw_in hb ha, fw_in ha hb, h3 a b ha hb, h3 a k ha hk, h3 k b hk hb]
    omega
  · intro a b j ha hb hj
    by_cases q : j = k
    · subst q
      rw [fw_in hb ha, fw_in hk ha, fw_in hb hk, h2 j hk]
      omega
    · have hj' : j < k := by omega
      have hj8 : j < 8 := by omega
      rw [fw_in hb ha, fw_in hj8 ha, fw_in hb hj8]
      have t1 := h4 a b j ha hb hj'
      have t2 := h4 k b j hk hb hj'
      have t3 := h4 a k j ha hk hj'
      omega
  · intro a b ha hb q
    rw [fw_in hb ha]
    have := h5 a b ha hb q
    omega
  · intro a b ha hb q h
    rw [fw_in hb ha] at h
    by_cases c : d (8 * a + b) ≤ d (8 * a + k) + d (8 * k + b)
    · obtain ⟨x, hx, h7, h8⟩ := h6 a b ha hb q (by omega)
      refine ⟨x, hx, h7, ?_⟩
      rw [fw_in hb hx, fw_in hb ha]
      omega
    · have hak : a ≠ k := by
        intro e
        subst e
        rw [h2 a ha] at c
        omega
      obtain ⟨x, hx, h7, h8⟩ := h6 a k ha hk hak (by omega)
      refine ⟨x, hx, h7, ?_⟩
      rw [fw_in hb hx, fw_in hb ha]
      omega
def fwA (F : Nat) (A B W : Nat → Nat) (n : Nat) : Nat → Nat := rngF fwD 8 0 (rngF (fwL A B W) n 0 (fwZ F))
theorem fw_ok {F : Nat} {A B W : Nat → Nat} {n : Nat} (hA : ∀ l, l < n → A l < 8) (hB : ∀ l, l < n → B l < 8) (hne : ∀ l, l < n → A l ≠ B l) : fwOK F A B W n 8 (fwA F A B W n) :=
  rngF_inv (P := fun k d => fwOK F A B W n k d) (n := 8) (fun _ _ hk h => fw_ok1 hk h) 8 0 _ rfl (fw_ok0 hA hB hne)
/-- two numbers for far tell alike -/
def fw2 (F G m : Nat) (d e : Nat → Nat) : Prop := ∀ a b, a < 8 → b < 8 → (d (8 * a + b) = F ∧ e (8 * a + b) = G) ∨ (d (8 * a + b) = e (8 * a + b) ∧ d (8 * a + b) ≤ m)
theorem fw_two {F G : Nat} {A B W : Nat → Nat} {n : Nat} (hF : 10000 ≤ F) (hG : 10000 ≤ G) (hA : ∀ l, l < n → A l < 8) (hB : ∀ l, l < n → B l < 8) (hne : ∀ l, l < n → A l ≠ B l) (hW : ∀ l, l < n → 1 ≤ W l ∧ W l ≤ 9) : fw2 F G 2304 (fwA F A B W n) (fwA G A B W n) := by
  have h0 : fw2 F G 9 (rngF (fwL A B W) n 0 (fwZ F)) (rngF (fwL A B W) n 0 (fwZ G)) := by
    intro a b ha hb
    rw [fw_init hA hB hne ha hb, fw_init hA hB hne ha hb]
    by_cases q : a = b
    · rw [if_pos q, if_pos q]; right; omega
    · rw [if_neg q, if_neg q]
      exact ll_two (by omega) (by omega) hW a b
  have hs : ∀ (k m : Nat) (d e : Nat → Nat), k < 8 → 2 * m < 10000 → fw2 F G m d e → fw2 F G (2 * m) (fwD k d) (fwD k e) := by
    intro k m d e hk hm h a b ha hb
    rw [fw_in hb ha, fw_in hb ha]
    have h1 := h a b ha hb
    have h2 := h a k ha hk
    have h3 := h k b hk hb
    omega
  unfold fwA
  show fw2 F G 2304 (fwD 7 (fwD 6 (fwD 5 (fwD 4 (fwD 3 (fwD 2 (fwD 1 (fwD 0 _)))))))) (fwD 7 (fwD 6 (fwD 5 (fwD 4 (fwD 3 (fwD 2 (fwD 1 (fwD 0 _))))))))
  have g1 := hs 0 9 _ _ (by omega) (by omega) h0
  have g2 := hs 1 _ _ _ (by omega) (by omega) g1
  have g3 := hs 2 _ _ _ (by omega) (by omega) g2
  have g4 := hs 3 _ _ _ (by omega) (by omega) g3
  have g5 := hs 4 _ _ _ (by omega) (by omega) g4
  have g6 := hs 5 _ _ _ (by omega) (by omega) g5
  have g7 := hs 6 _ _ _ (by omega) (by omega) g6
  exact hs 7 _ _ _ (by omega) (by omega) g7
