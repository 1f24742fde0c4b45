/-! PLAIN LAND, 36: code behind what it joins: what it reckons -/
def big (v : Int64) : Bool := decide (v < (-1000000000 : Int64)) || decide (jj 1000000000 < v)
/-- two numbers joined; none: broken -/
def rk (o : Nat) (a b : Int64) : Option Int64 :=
  if o = 20 then some (a + b) else if o = 21 then some (a - b) else if o = 22 then some (a * b) else
  if o = 23 then (if b = jj 0 then none else some (a / b)) else if o = 24 then (if b = jj 0 then none else some (a - a / b * b)) else
  if o = 25 then some (if b ≤ a then jj 0 else jj 1) else if o = 26 then some (if a ≤ b then jj 0 else jj 1) else some (if a = b then jj 1 else jj 0)
def rkB (o : Nat) (a b : Int64) : Option Int64 := match rk o a b with
  | none => none
  | some v => if big v = true then none else some v
/-- the loop: outer none: stuck, or out of fuel; inner none: broken -/
def lp (op ar : Nat → Nat) (lf : Nat → Nat → Int64) (last : Nat) : Nat → Nat → Nat → (Nat → Int64) → Option (Option (Nat × (Nat → Int64)))
  | 0, _, _, _ => none
  | f + 1, k, n, st =>
    if last ≤ k then some (some (n, st)) else
    if op k < 20 then lp op ar lf last f (k + 1) (n + 1) (vp_updL st n (lf (op k) (ar k))) else
    if op k < 28 then
      (if n < 2 then none else
        match rkB (op k) (st (n - 2)) (st (n - 1)) with
        | none => some none
        | some v => lp op ar lf last f (k + 1) (n - 1) (vp_updL st (n - 2) v)) else
    if n < 1 then none else
    if op k = 28 then lp op ar lf last f (k + 1) n (vp_updL st (n - 1) (jj 1 - st (n - 1))) else
    if st (n - 1) = (if op k = 29 then jj 0 else jj 1) then (if ar k ≤ k then none else lp op ar lf last f (ar k) n st) else lp op ar lf last f (k + 1) (n - 1) st
/-- from k0 to k1 this is reckoned -/
def Seg (op ar : Nat → Nat) (lf : Nat → Nat → Int64) (k0 k1 : Nat) (d : Option Int64) : Prop :=
  k0 < k1 ∧ ∀ last f n st, k1 ≤ last →
    (∃ x f' st', d = some x ∧ f ≤ f' ∧ lp op ar lf last (f + (k1 - k0)) k0 n st = lp op ar lf last f' k1 (n + 1) st' ∧ st' n = x ∧ ∀ i, i < n → st' i = st i) ∨
    (d = none ∧ lp op ar lf last (f + (k1 - k0)) k0 n st = some none)
section
variable {op ar : Nat → Nat} {lf : Nat → Nat → Int64}
theorem seg_leaf {k : Nat} (h : op k < 20) : Seg op ar lf k (k + 1) (some (lf (op k) (ar k))) := by
  refine ⟨by omega, fun last f n st hl => Or.inl ⟨_, f, vp_updL st n (lf (op k) (ar k)), rfl, Nat.le_refl _, ?_, ?_, fun i hi => ?_⟩⟩
  · rw [show k + 1 - k = 1 by omega]
    conv => lhs; unfold lp
    rw [if_neg (by omega), if_pos h]
  · rw [updL_at, if_pos rfl]
  · rw [updL_at, if_neg (by omega)]
/-- two segments and what joins them -/
theorem seg_two {k0 k1 k2 : Nat} {a b : Option Int64} (ha : Seg op ar lf k0 k1 a) (hb : Seg op ar lf k1 k2 b) (h1 : 20 ≤ op k2) (h2 : op k2 < 28) :
    Seg op ar lf k0 (k2 + 1) (a.bind fun x => b.bind fun y => rkB (op k2) x y) := by
  obtain ⟨a1, a2⟩ := ha
  obtain ⟨b1, b2⟩ := hb
  refine ⟨by omega, fun last f n st hl => ?_⟩
  have e : f + (k2 + 1 - k0) = f + 1 + (k2 - k1) + (k1 - k0) := by omega
  rw [e]
  rcases a2 last (f + 1 + (k2 - k1)) n st (by omega) with ⟨x, f1, st1, rfl, g1, g2, g3, g4⟩ | ⟨rfl, g2⟩
  · obtain ⟨f1', rfl⟩ : ∃ z, f1 = z + (k2 - k1) := ⟨f1 - (k2 - k1), by omega⟩
    rw [g2]
    rcases b2 last f1' (n + 1) st1 (by omega) with ⟨y, f2, st2, rfl, r1, r2, r3, r4⟩ | ⟨rfl, r2⟩
    · obtain ⟨f2', rfl⟩ : ∃ z, f2 = z + 1 := ⟨f2 - 1, by omega⟩
      rw [r2]
      have s : lp op ar lf last (f2' + 1) k2 (n + 1 + 1) st2 = match rkB (op k2) (st2 n) (st2 (n + 1)) with
          | none => some none
          | some v => lp op ar lf last f2' (k2 + 1) (n + 1) (vp_updL st2 n v) := by
        conv => lhs; unfold lp
        rw [if_neg (by omega), if_neg (by omega), if_pos h2, if_neg (by omega)]
        rfl
      rw [s, r3, r4 n (by omega), g3]
      show (∃ x_1 f' st', rkB (op k2) x y = some x_1 ∧ _) ∨ (rkB (op k2) x y = none ∧ _)
      cases q : rkB (op k2) x y with
      | none => exact Or.inr ⟨rfl, rfl⟩
      | some v =>
        refine Or.inl ⟨v, f2', vp_updL st2 n v, rfl, by omega, rfl, ?_, fun i hi => ?_⟩
        · rw [updL_at, if_pos rfl]
        · rw [updL_at, if_neg (by omega), r4 i (by omega), g4 i hi]
    · exact Or.inr ⟨rfl, r2⟩
  · exact Or.inr ⟨rfl, g2⟩
theorem seg_not {k0 k1 : Nat} {a : Option Int64} (ha : Seg op ar lf k0 k1 a) (h : op k1 = 28) : Seg op ar lf k0 (k1 + 1) (a.bind fun x => some (jj 1 - x)) := by
  obtain ⟨a1, a2⟩ := ha
  refine ⟨by omega, fun last f n st hl => ?_⟩
  have e : f + (k1 + 1 - k0) = f + 1 + (k1 - k0) := by omega
  rw [e]
  rcases a2 last (f + 1) n st (by omega) with ⟨x, f1, st1, rfl, g1, g2, g3, g4⟩ | ⟨rfl, g2⟩
  · obtain ⟨f1', rfl⟩ : ∃ z, f1 = z + 1 := ⟨f1 - 1, by omega⟩
    rw [g2]
    have s : lp op ar lf last (f1' + 1) k1 (n + 1) st1 = lp op ar lf last f1' (k1 + 1) (n + 1) (vp_updL st1 n (jj 1 - st1 n)) := by
      conv => lhs; unfold lp
      rw [if_neg (by omega), if_neg (by omega), if_neg (by omega), if_neg (by omega), if_pos h]
      rfl
    rw [s, g3]
    refine Or.inl ⟨_, f1', vp_updL st1 n (jj 1 - x), rfl, by omega, rfl, ?_, fun i hi => ?_⟩
    · rw [updL_at, if_pos rfl]
    · rw [updL_at, if_neg (by omega), g4 i hi]
  · exact Or.inr ⟨rfl, g2⟩
/-- and, or: what stops it, the jump behind the second -/
theorem seg_join {k0 k1 k2 : Nat} {a b : Option Int64} {z : Int64} (ha : Seg op ar lf k0 k1 a) (hb : Seg op ar lf (k1 + 1) k2 b) (h : 29 ≤ op k1) (hz : (if op k1 = 29 then jj 0 else jj 1) = z) (hj : ar k1 = k2) :
    Seg op ar lf k0 k2 (a.bind fun x => if x = z then some x else b) := by
  obtain ⟨a1, a2⟩ := ha
  obtain ⟨b1, b2⟩ := hb
  refine ⟨by omega, fun last f n st hl => ?_⟩
  have e : f + (k2 - k0) = f + (k2 - (k1 + 1)) + 1 + (k1 - k0) := by omega
  rw [e]
  rcases a2 last (f + (k2 - (k1 + 1)) + 1) n st (by omega) with ⟨x, f1, st1, rfl, g1, g2, g3, g4⟩ | ⟨rfl, g2⟩
  · obtain ⟨f1', rfl⟩ : ∃ y, f1 = y + (k2 - (k1 + 1)) + 1 := ⟨f1 - (k2 - (k1 + 1)) - 1, by omega⟩
    rw [g2]
    have s : lp op ar lf last (f1' + (k2 - (k1 + 1)) + 1) k1 (n + 1) st1 = if st1 n = z then lp op ar lf last (f1' + (k2 - (k1 + 1))) k2 (n + 1) st1 else lp op ar lf last (f1' + (k2 - (k1 + 1))) (k1 + 1) n st1 := by
      conv => lhs; unfold lp
      rw [if_neg (by omega), if_neg (by omega), if_neg (by omega), if_neg (by omega), if_neg (by omega), hz, hj, if_neg (show ¬ k2 ≤ k1 by omega)]
      rfl
    rw [s, g3]
    show (∃ x_1 f' st', (if x = z then some x else b) = some x_1 ∧ _) ∨ ((if x = z then some x else b) = none ∧ _)
    by_cases q : x = z
    · rw [if_pos q, if_pos q]
      exact Or.inl ⟨x, f1' + (k2 - (k1 + 1)), st1, rfl, by omega, rfl, g3, g4⟩
    · rw [if_neg q, if_neg q]
      rcases b2 last f1' n st1 (by omega) with ⟨y, f2, st2, rfl, r1, r2, r3, r4⟩ | ⟨rfl, r2⟩
      · exact Or.inl ⟨y, f2, st2, rfl, by omega, r2, r3, fun i hi => (r4 i hi).trans (g4 i hi)⟩
      · exact Or.inr ⟨rfl, r2⟩
  · exact Or.inr ⟨rfl, g2⟩
end
