/-! PLAIN LAND, 42: code that is there, and what is pending behind it -/
/-- what a leaf is, among the values v -/
def lfV (lg : Bool) (v : Nat → Int64) (o a : Nat) : Int64 := if o = 0 then jj a else if lg = false then v (o - 1) else if o < 6 then v (o - 1) else if o = 6 then v (5 + a) else v (9 + a)
def tD (t : TDen) : Den := fun v => (t v).map b01
def SegL (lg : Bool) (op ar : Nat → Nat) (k0 k1 : Nat) (d : Den) : Prop := ∀ op' ar', (∀ k, k0 ≤ k → k < k1 → op' k = op k ∧ ar' k = ar k) → ∀ v, Seg op' ar' (lfV lg v) k0 k1 (d v)
/-- where code ends when all of ps is settled -/
def finN : List (Nat × Nat) → Nat → Nat
  | [], n => n
  | (o, _) :: r, n => if 29 ≤ o then finN r n else finN r (n + 1)
/-- ps is settled: signs from n on, jumps laid -/
def OKc : List (Nat × Nat) → Nat → (Nat → Nat) → (Nat → Nat) → Prop
  | [], _, _, _ => True
  | (o, a) :: r, n, op, ar => if 29 ≤ o then ar a = n ∧ OKc r n op ar else op n = o ∧ OKc r (n + 1) op ar
def Pnd (lg : Bool) (op ar : Nat → Nat) (n k0 : Nat) (ps : List (Nat × Nat)) (d : Den) : Prop :=
  ∀ op2 ar2, (∀ k, k0 ≤ k → k < n → op2 k = op k ∧ ((∀ o, (o, k) ∈ ps → o < 29) → ar2 k = ar k)) → OKc ps n op2 ar2 → ∀ v, Seg op2 ar2 (lfV lg v) k0 (finN ps n) (d v)
theorem finN_c (o a : Nat) (r : List (Nat × Nat)) (n : Nat) : finN ((o, a) :: r) n = if 29 ≤ o then finN r n else finN r (n + 1) := rfl
theorem OKc_c (o a : Nat) (r : List (Nat × Nat)) (n : Nat) (op ar : Nat → Nat) : OKc ((o, a) :: r) n op ar = if 29 ≤ o then ar a = n ∧ OKc r n op ar else op n = o ∧ OKc r (n + 1) op ar := rfl
theorem finN_app (p q : List (Nat × Nat)) : ∀ n, finN (p ++ q) n = finN q (finN p n) := by
  induction p with
  | nil => intro n; rfl
  | cons x p ih =>
    intro n
    obtain ⟨o, a⟩ := x
    show finN ((o, a) :: (p ++ q)) n = _
    rw [finN_c, finN_c]
    split
    · exact ih n
    · exact ih (n + 1)
theorem OKc_app (p q : List (Nat × Nat)) (op ar : Nat → Nat) : ∀ n, OKc (p ++ q) n op ar = (OKc p n op ar ∧ OKc q (finN p n) op ar) := by
  induction p with
  | nil => intro n; show OKc q n op ar = (True ∧ OKc q n op ar); rw [true_and]
  | cons x p ih =>
    intro n
    obtain ⟨o, a⟩ := x
    show OKc ((o, a) :: (p ++ q)) n op ar = _
    rw [OKc_c, OKc_c, finN_c]
    split
    · rw [ih n, and_assoc]
    · rw [ih (n + 1), and_assoc]
theorem finN_le (p : List (Nat × Nat)) : ∀ n, n ≤ finN p n := by
  induction p with
  | nil => intro n; exact Nat.le_refl _
  | cons x p ih =>
    intro n
    obtain ⟨o, a⟩ := x
    unfold finN
    split
    · exact ih n
    · have := ih (n + 1); omega
theorem finN_ub (p : List (Nat × Nat)) : ∀ n, finN p n ≤ n + p.length := by
  induction p with
  | nil => intro n; exact Nat.le_refl _
  | cons x p ih =>
    intro n
    obtain ⟨o, a⟩ := x
    unfold finN
    simp only [List.length_cons]
    split
    · have := ih n; omega
    · have := ih (n + 1); omega
/-- settled stays settled where the code is the same -/
theorem OKc_congr {op ar op' ar' : Nat → Nat} (p : List (Nat × Nat)) : ∀ n, OKc p n op ar → (∀ k, n ≤ k → k < finN p n → op' k = op k) → (∀ o a, (o, a) ∈ p → 29 ≤ o → ar' a = ar a) → OKc p n op' ar' := by
  induction p with
  | nil => intro n _ _ _; trivial
  | cons x p ih =>
    intro n h h1 h2
    obtain ⟨o, a⟩ := x
    unfold OKc at h ⊢
    unfold finN at h1
    by_cases q : 29 ≤ o
    · rw [if_pos q] at h ⊢
      rw [if_pos q] at h1
      exact ⟨by rw [h2 o a (by simp) q]; exact h.1, ih n h.2 h1 (fun o a m => h2 o a (by simp [m]))⟩
    · rw [if_neg q] at h ⊢
      rw [if_neg q] at h1
      have := finN_le p (n + 1)
      exact ⟨by rw [h1 n (Nat.le_refl _) (by omega)]; exact h.1, ih (n + 1) h.2 (fun k a c => h1 k (by omega) c) (fun o a m => h2 o a (by simp [m]))⟩
section
variable {lg : Bool} {op ar : Nat → Nat} {n k0 k1 : Nat} {ps : List (Nat × Nat)} {a b d : Den} {ta tb : TDen}
theorem Pnd_leaf (h : op k0 < 20) : Pnd lg op ar (k0 + 1) k0 [] fun v => some (lfV lg v (op k0) (ar k0)) := by
  intro op2 ar2 h1 _ v
  obtain ⟨e1, e2⟩ := h1 k0 (Nat.le_refl _) (by omega)
  have e2 := e2 (fun o m => by cases m)
  rw [← e1, ← e2]
  exact seg_leaf (by rw [e1]; exact h)
/-- all settled -/
theorem Pnd_fin {op' ar' : Nat → Nat} (h : Pnd lg op ar n k0 ps d) (h1 : OKc ps n op' ar') (h2 : ∀ k, k0 ≤ k → k < n → op' k = op k ∧ ((∀ o, (o, k) ∈ ps → o < 29) → ar' k = ar k)) (h3 : ∀ o a, (o, a) ∈ ps → 29 ≤ o → k0 ≤ a ∧ a < n) (hk : k0 ≤ n) : SegL lg op' ar' k0 (finN ps n) d := by
  intro op2 ar2 he v
  have hf := finN_le ps n
  refine h op2 ar2 (fun k x1 x2 => ?_) (OKc_congr ps n h1 (fun k x1 x2 => (he k (by omega) x2).1) (fun o a m q => (he a (h3 o a m q).1 (by have := (h3 o a m q).2; omega)).2)) v
  obtain ⟨e1, e2⟩ := he k x1 (by omega)
  obtain ⟨g1, g2⟩ := h2 k x1 x2
  exact ⟨e1.trans g1, fun m => e2.trans (g2 m)⟩
theorem SegL_nil (h : Pnd lg op ar n k0 [] d) : SegL lg op ar k0 n d := by
  intro op2 ar2 he v
  exact h op2 ar2 (fun k x1 x2 => ⟨(he k x1 x2).1, fun _ => (he k x1 x2).2⟩) trivial v
theorem SegL_congr {op' ar' : Nat → Nat} (h : SegL lg op ar k0 k1 d) (h2 : ∀ k, k0 ≤ k → k < k1 → op' k = op k ∧ ar' k = ar k) : SegL lg op' ar' k0 k1 d := by
  intro op2 ar2 he v
  exact h op2 ar2 (fun k x1 x2 => ⟨(he k x1 x2).1.trans (h2 k x1 x2).1, (he k x1 x2).2.trans (h2 k x1 x2).2⟩) v
theorem Pnd_congr {op' ar' : Nat → Nat} (h : Pnd lg op ar n k0 ps d) (h2 : ∀ k, k0 ≤ k → k < n → op' k = op k ∧ ar' k = ar k) : Pnd lg op' ar' n k0 ps d := by
  intro op2 ar2 he ho v
  exact h op2 ar2 (fun k x1 x2 => ⟨(he k x1 x2).1.trans (h2 k x1 x2).1, fun m => ((he k x1 x2).2 m).trans (h2 k x1 x2).2⟩) ho v
theorem SegL_lt (h : SegL lg op ar k0 k1 d) : k0 < k1 := (h op ar (fun _ _ _ => ⟨rfl, rfl⟩) (fun _ => 0)).1
theorem Pnd_two {o : Nat} (ha : SegL lg op ar k0 k1 a) (hb : Pnd lg op ar n k1 ps b) (hp : ∀ x, x ∈ ps → x.1 < 29) (ho : 20 ≤ o ∧ o < 28) (hn : k1 ≤ n) : Pnd lg op ar n k0 (ps ++ [(o, 0)]) (twoD o a b) := by
  intro op2 ar2 he hok v
  have h01 := SegL_lt ha
  rw [OKc_app] at hok
  obtain ⟨o1, o2⟩ := hok
  unfold OKc at o2
  rw [if_neg (by omega)] at o2
  have hp' : ∀ o' k, (o', k) ∈ ps ++ [(o, 0)] → o' < 29 := by
    intro o' k m
    rcases List.mem_append.mp m with m | m
    · exact hp _ m
    · simp at m; omega
  have sa := ha op2 ar2 (fun k x1 x2 => ⟨(he k x1 (by omega)).1, (he k x1 (by omega)).2 (fun o' m => hp' o' k m)⟩) v
  have sb := hb op2 ar2 (fun k x1 x2 => ⟨(he k (by omega) x2).1, fun _ => (he k (by omega) x2).2 (fun o' m => hp' o' k m)⟩) o1 v
  have := seg_two sa sb (by rw [o2.1]; exact ho.1) (by rw [o2.1]; exact ho.2)
  rw [o2.1] at this
  rw [finN_app]
  have e : finN [(o, 0)] (finN ps n) = finN ps n + 1 := by
    show (if 29 ≤ o then finN ps n else finN ps n + 1) = _
    rw [if_neg (by omega)]
  rw [e]
  exact this
theorem rkB_cmp {o : Nat} (ho : 25 ≤ o ∧ o < 28) (x y : Int64) : rkB o x y = some (b01 (cmpV o x y)) := by
  have hb : ∀ c : Bool, big (b01 c) = false := by intro c; cases c <;> decide
  have h : rk o x y = some (b01 (cmpV o x y)) := by
    have e1 : ∀ x y : Int64, (x ≤ y) = ¬ y < x := fun x y => by rw [leL_int, ltL_int]; exact propext (by omega)
    obtain rfl | rfl | rfl : o = 25 ∨ o = 26 ∨ o = 27 := by omega
    · show some (if y ≤ x then jj 0 else jj 1) = some (b01 (decide (x < y)))
      simp only [e1]
      by_cases c : x < y <;> simp [c, b01]
    · show some (if x ≤ y then jj 0 else jj 1) = some (b01 (decide (y < x)))
      simp only [e1]
      by_cases c : y < x <;> simp [c, b01]
    · show some (if x = y then jj 1 else jj 0) = some (b01 (decide (x = y)))
      by_cases c : x = y <;> simp [c, b01]
  unfold rkB
  rw [h]
  simp [hb]
theorem twoD_cmp {o : Nat} (ho : 25 ≤ o ∧ o < 28) : twoD o a b = tD (cmpD o a b) := by
  funext v
  unfold twoD tD cmpD
  cases a v with
  | none => rfl
  | some x =>
    cases b v with
    | none => rfl
    | some y => exact rkB_cmp ho x y
theorem Pnd_not (hb : Pnd lg op ar n k0 ps (tD ta)) : Pnd lg op ar n k0 (ps ++ [(28, 0)]) (tD (notD ta)) := by
  intro op2 ar2 he hok v
  rw [OKc_app] at hok
  obtain ⟨o1, o2⟩ := hok
  unfold OKc at o2
  rw [if_neg (by omega)] at o2
  have sb := hb op2 ar2 (fun k x1 x2 => ⟨(he k x1 x2).1, fun h => (he k x1 x2).2 (fun o' m => by
    rcases List.mem_append.mp m with m | m
    · exact h o' m
    · simp at m; omega)⟩) o1 v
  have := seg_not sb o2.1
  rw [finN_app]
  have e : finN [(28, 0)] (finN ps n) = finN ps n + 1 := rfl
  rw [e]
  have e2 : tD (notD ta) v = ((tD ta v).bind fun x => some (jj 1 - x)) := by
    unfold tD notD
    cases ta v with
    | none => rfl
    | some x => cases x <;> rfl
  rw [e2]
  exact this
theorem Pnd_join {all : Bool} (ha : SegL lg op ar k0 k1 (tD ta)) (hop : op k1 = if all = true then 29 else 30) (hb : Pnd lg op ar n (k1 + 1) ps (tD tb)) (hp : ∀ o x, (o, x) ∈ ps → 29 ≤ o → k1 + 1 ≤ x) (hn : k1 + 1 ≤ n) :
    Pnd lg op ar n k0 (ps ++ [(if all = true then 29 else 30, k1)]) (tD (jnD all ta tb)) := by
  intro op2 ar2 he hok v
  have h01 := SegL_lt ha
  have h29 : 29 ≤ if all = true then 29 else 30 := by split <;> omega
  rw [OKc_app] at hok
  obtain ⟨o1, o2⟩ := hok
  unfold OKc at o2
  rw [if_pos h29] at o2
  have sa := ha op2 ar2 (fun k x1 x2 => ⟨(he k x1 (by omega)).1, (he k x1 (by omega)).2 (fun o' m => by
    rcases List.mem_append.mp m with m | m
    · by_cases q : 29 ≤ o'
      · have := hp o' k m q; omega
      · omega
    · simp at m; omega)⟩) v
  have sb := hb op2 ar2 (fun k x1 x2 => ⟨(he k (by omega) x2).1, fun h => (he k (by omega) x2).2 (fun o' m => by
    rcases List.mem_append.mp m with m | m
    · exact h o' m
    · simp at m; omega)⟩) o1 v
  have eop : op2 k1 = if all = true then 29 else 30 := by rw [(he k1 (by omega) (by omega)).1]; exact hop
  have := seg_join (z := if all = true then jj 0 else jj 1) sa sb (by rw [eop]; exact h29) (by rw [eop]; cases all <;> rfl) o2.1
  rw [finN_app]
  have e : finN [(if all = true then 29 else 30, k1)] (finN ps n) = finN ps n := by
    show (if 29 ≤ (if all = true then 29 else 30) then finN ps n else finN ps n + 1) = _
    rw [if_pos h29]
  rw [e]
  have e2 : tD (jnD all ta tb) v = ((tD ta v).bind fun x => if x = (if all = true then jj 0 else jj 1) then some x else tD tb v) := by
    unfold tD jnD
    cases ta v with
    | none => rfl
    | some x =>
      cases all <;> cases x <;> simp [b01] <;> first | rfl | (intro h; exact absurd h (by decide))
  rw [e2]
  exact this
end
