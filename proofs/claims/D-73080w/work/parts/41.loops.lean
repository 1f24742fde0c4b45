/-! PLAIN LAND, 2: loops; whole arrays put in the place of others -/
/-- f at l, l + 1, .. , d times -/
def rngF {α : Type} (f : Nat → α → α) : Nat → Nat → α → α
  | 0, _, x => x
  | d + 1, l, x => rngF f d (l + 1) (f l x)
theorem rngF_last {α : Type} (f : Nat → α → α) : ∀ (d l : Nat) (x : α), rngF f (d + 1) l x = f (l + d) (rngF f d l x) := by
  intro d
  induction d with
  | zero => intro l x; rfl
  | succ d ih =>
    intro l x
    show rngF f (d + 1) (l + 1) (f l x) = _
    rw [ih]
    show f (l + 1 + d) _ = f (l + (d + 1)) _
    rw [show l + 1 + d = l + (d + 1) by omega]
    rfl
theorem rngF_congr {α : Type} {f g : Nat → α → α} {d l : Nat} (h : ∀ j x, l ≤ j → j < l + d → f j x = g j x) (x : α) : rngF f d l x = rngF g d l x := by
  induction d generalizing l x with
  | zero => rfl
  | succ d ih =>
    show rngF f d (l + 1) (f l x) = rngF g d (l + 1) (g l x)
    rw [h l x (Nat.le_refl _) (by omega)]
    exact ih (fun j x h1 h2 => h j x (by omega) (by omega)) _
/-- what holds along a loop -/
theorem rngF_inv {α : Type} {f : Nat → α → α} {P : Nat → α → Prop} {n : Nat} (h : ∀ l x, l < n → P l x → P (l + 1) (f l x)) : ∀ (d l : Nat) (x : α), l + d = n → P l x → P n (rngF f d l x) := by
  intro d
  induction d with
  | zero => intro l x hl hp; have : l = n := by omega
            subst this; exact hp
  | succ d ih => intro l x hl hp; exact ih (l + 1) (f l x) (by omega) (h l x (by omega) hp)
/-- a loop that counts up, and leaves at its end alone -/
theorem loop_up {α β : Type} (F : Nat → α → Nat → Option β) (f : Nat → α → α) (P : Nat → α → Prop) (n : Nat) (fin : α → Option β)
    (hs : ∀ k x l, l < n → P l x → F (k + 1) x l = F k (f l x) (l + 1) ∧ P (l + 1) (f l x)) (hf : ∀ k x, P n x → F (k + 1) x n = fin x) :
    ∀ (d l : Nat) (x : α) (k : Nat), l + d = n → d < k → P l x → F k x l = fin (rngF f d l x) := by
  intro d
  induction d with
  | zero =>
    intro l x k hl hk hp
    obtain ⟨k, rfl⟩ : ∃ k', k = k' + 1 := ⟨k - 1, by omega⟩
    have : l = n := by omega
    subst this
    exact hf k x hp
  | succ d ih =>
    intro l x k hl hk hp
    obtain ⟨k, rfl⟩ : ∃ k', k = k' + 1 := ⟨k - 1, by omega⟩
    obtain ⟨h1, h2⟩ := hs k x l (by omega) hp
    rw [h1]
    exact ih (l + 1) (f l x) k (by omega) (by omega) h2
/-- at a the whole array g -/
def sI (I : xI) (a : Nat) (g : Nat → Int32) : xI := fun b => if b = a then g else I b
def sL (L : xL) (a : Nat) (g : Nat → Int64) : xL := fun b => if b = a then g else L b
theorem sI_ne {I : xI} {a : Nat} {g : Nat → Int32} {b : Nat} (h : b ≠ a) : sI I a g b = I b := if_neg h
theorem sI_at (I : xI) (a : Nat) (g : Nat → Int32) : sI I a g a = g := if_pos rfl
theorem sL_ne {L : xL} {a : Nat} {g : Nat → Int64} {b : Nat} (h : b ≠ a) : sL L a g b = L b := if_neg h
theorem sL_at (L : xL) (a : Nat) (g : Nat → Int64) : sL L a g a = g := if_pos rfl
theorem uI_s (I : xI) (a k : Nat) (v : Int32) : uI I a k v = sI I a (upd (I a) k v) := rfl
theorem uL_s (L : xL) (a k : Nat) (v : Int64) : uL L a k v = sL L a (vp_updL (L a) k v) := rfl
theorem sI_sI (I : xI) (a : Nat) (g h : Nat → Int32) : sI (sI I a g) a h = sI I a h := by
  funext b; unfold sI; by_cases q : b = a <;> simp [q]
theorem sL_sL (L : xL) (a : Nat) (g h : Nat → Int64) : sL (sL L a g) a h = sL L a h := by
  funext b; unfold sL; by_cases q : b = a <;> simp [q]
theorem sI_id (I : xI) (a : Nat) : sI I a (I a) = I := by
  funext b; unfold sI; by_cases q : b = a <;> simp [q]
theorem sL_id (L : xL) (a : Nat) : sL L a (L a) = L := by
  funext b; unfold sL; by_cases q : b = a <;> simp [q]
theorem sI_comm {I : xI} {a b : Nat} {g h : Nat → Int32} (q : a ≠ b) : sI (sI I a g) b h = sI (sI I b h) a g := by
  funext x; unfold sI
  by_cases h1 : x = a
  · subst h1; simp [q]
  · by_cases h2 : x = b <;> simp [h1, h2, Ne.symm q]
theorem upd_at (g : Nat → Int32) (k : Nat) (v : Int32) (j : Nat) : upd g k v j = if j = k then v else g j := rfl
theorem updL_at (g : Nat → Int64) (k : Nat) (v : Int64) (j : Nat) : vp_updL g k v j = if j = k then v else g j := rfl
/-- places lo, lo + 1, .. (d of them) taken from h -/
def cpy32 (g h : Nat → Int32) (lo d : Nat) : Nat → Int32 := fun j => if lo ≤ j ∧ j < lo + d then h (j - lo) else g j
theorem cpy32_0 (g h : Nat → Int32) (lo : Nat) : cpy32 g h lo 0 = g := by
  funext j; unfold cpy32; rw [if_neg (by omega)]
theorem cpy32_s (g h : Nat → Int32) (lo d : Nat) : upd (cpy32 g h lo d) (lo + d) (h d) = cpy32 g h lo (d + 1) := by
  funext j
  rw [upd_at]
  unfold cpy32
  by_cases h1 : j = lo + d
  · subst h1
    rw [if_pos rfl, if_pos (by omega), Nat.add_sub_cancel_left]
  · rw [if_neg h1]
    by_cases h2 : lo ≤ j ∧ j < lo + d
    · rw [if_pos h2, if_pos (by omega)]
    · rw [if_neg h2, if_neg (by omega)]
