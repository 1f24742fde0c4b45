/-! MY KIT, 1: the heap as functions of address and place (tags T, lengths N, ints I, longs L, references R); what a decompiled method is made of -/
def ii (n : Nat) : Int32 := Int32.ofNat n
def jj (n : Nat) : Int64 := Int64.ofNat n
abbrev xT : Type := Nat → Nat
abbrev xI : Type := Nat → Nat → Int32
abbrev xL : Type := Nat → Nat → Int64
abbrev xR : Type := Nat → Nat → Option Nat
def uI (I : xI) (a k : Nat) (v : Int32) : xI := fun b => if b = a then upd (I a) k v else I b
def uL (L : xL) (a k : Nat) (v : Int64) : xL := fun b => if b = a then vp_updL (L a) k v else L b
def uR (R : xR) (a k : Nat) (v : Option Nat) : xR := fun b => if b = a then va_up (R a) k v else R b
def nm {α β : Type} (e : α) (k : α → Option β) : Option β := k e
def inb (i : Int32) (n : Nat) : Bool := decide (¬ i < 0) && decide (i.toNatClampNeg < n)
def zb (v : Int32) : Bool := decide (v = 0) || decide (v = 1)
def chk {β : Type} (c : Bool) (k : Option β) : Option β := match c with
  | true => k
  | false => none
/-- the cell at a has the tag t -/
def tg {β : Type} (T : xT) (t a : Nat) (k : Option β) : Option β := if T a = t then k else none
/-- the array at a has the tag t, and i is within -/
def rA {β : Type} (T N : xT) (t a : Nat) (i : Int32) (k : Nat → Option β) : Option β := if T a = t ∧ inb i (N a) = true then k i.toNatClampNeg else none
theorem nm_s {α β : Type} {e : α} {k : α → Option β} {r : β} (h : nm e k = some r) : ∃ v, v = e ∧ k v = some r := ⟨e, rfl, h⟩
theorem bs {α β : Type} {o : Option α} {k : α → Option β} {r : β} (h : o.bind k = some r) : ∃ v, o = some v ∧ k v = some r := Option.bind_eq_some_iff.mp h
theorem chk_s {β : Type} {c : Bool} {k : Option β} {r : β} (h : chk c k = some r) : c = true ∧ k = some r := by
  cases c
  · cases h
  · exact ⟨rfl, h⟩
theorem tg_s {β : Type} {T : xT} {t a : Nat} {k : Option β} {r : β} (h : tg T t a k = some r) : T a = t ∧ k = some r := by
  unfold tg at h
  split at h
  · exact ⟨by assumption, h⟩
  · cases h
theorem rA_s {β : Type} {T N : xT} {t a : Nat} {i : Int32} {k : Nat → Option β} {r : β} (h : rA T N t a i k = some r) : ∃ j, j = i.toNatClampNeg ∧ T a = t ∧ inb i (N a) = true ∧ k j = some r := by
  unfold rA at h
  split at h
  · rename_i q
    exact ⟨_, rfl, q.1, q.2, h⟩
  · cases h
theorem if_t {α : Type} {c : Prop} [Decidable c] {a b r : α} (h : (if c then a else b) = r) (hc : c) : a = r := by rw [if_pos hc] at h; exact h
theorem if_f {α : Type} {c : Prop} [Decidable c] {a b r : α} (h : (if c then a else b) = r) (hc : ¬ c) : b = r := by rw [if_neg hc] at h; exact h
theorem inb_vp {i : Int32} {n : Nat} (h : inb i n = true) : ¬ (i < 0 ∨ n ≤ i.toNatClampNeg) := by
  unfold inb at h
  simp only [Bool.and_eq_true, decide_eq_true_eq] at h
  rintro (q | q)
  · exact h.1 q
  · omega
theorem inb_lt {i : Int32} {n : Nat} (h : inb i n = true) : i.toNatClampNeg < n := by
  unfold inb at h
  simp only [Bool.and_eq_true, decide_eq_true_eq] at h
  exact h.2
theorem zb_or {v : Int32} (h : zb v = true) : v = 0 ∨ v = 1 := by
  unfold zb at h
  simpa using h
theorem zb_n {v : Int32} (h : zb v = true) : narrow .boolean (.int v) = .int v := by
  rcases zb_or h with e | e <;> (subst e; decide)
theorem zb_f {v : Int32} (h : zb v = true) : fits .boolean (.int v) = true := by
  rcases zb_or h with e | e <;> (subst e; decide)
def b2 {α β γ : Type} (o : Option (α × β)) (k : α → β → Option γ) : Option γ := o.bind fun p => k p.1 p.2
def b3 {α β γ δ : Type} (o : Option (α × β × γ)) (k : α → β → γ → Option δ) : Option δ := o.bind fun p => k p.1 p.2.1 p.2.2
def b4 {α β γ δ ε : Type} (o : Option (α × β × γ × δ)) (k : α → β → γ → δ → Option ε) : Option ε := o.bind fun p => k p.1 p.2.1 p.2.2.1 p.2.2.2
def oc {β : Type} (o : Option Nat) (kn : Option β) (ks : Nat → Option β) : Option β := match o with
  | none => kn
  | some a => ks a
theorem b2s {α β γ : Type} {o : Option (α × β)} {k : α → β → Option γ} {r : γ} (h : b2 o k = some r) : ∃ a b, o = some (a, b) ∧ k a b = some r := by
  obtain ⟨⟨a, b⟩, h1, h2⟩ := bs h
  exact ⟨a, b, h1, h2⟩
theorem b3s {α β γ δ : Type} {o : Option (α × β × γ)} {k : α → β → γ → Option δ} {r : δ} (h : b3 o k = some r) : ∃ a b c, o = some (a, b, c) ∧ k a b c = some r := by
  obtain ⟨⟨a, b, c⟩, h1, h2⟩ := bs h
  exact ⟨a, b, c, h1, h2⟩
theorem b4s {α β γ δ ε : Type} {o : Option (α × β × γ × δ)} {k : α → β → γ → δ → Option ε} {r : ε} (h : b4 o k = some r) : ∃ a b c d, o = some (a, b, c, d) ∧ k a b c d = some r := by
  obtain ⟨⟨a, b, c, d⟩, h1, h2⟩ := bs h
  exact ⟨a, b, c, d, h1, h2⟩
theorem oc_s {β : Type} {o : Option Nat} {kn : Option β} {ks : Nat → Option β} {r : β} (h : oc o kn ks = some r) : (o = none ∧ kn = some r) ∨ ∃ a, o = some a ∧ ks a = some r := by
  cases o with
  | none => exact Or.inl ⟨rfl, h⟩
  | some a => exact Or.inr ⟨a, rfl, h⟩
def uT (T : xT) (a t : Nat) : xT := fun b => if b = a then t else T b
/-- an array of this length can be made -/
def szk (n : Int32) : Bool := decide (¬ n < 0) && decide (n.toNatClampNeg ≤ 60000)
theorem szk_n {n : Int32} (h : szk n = true) : ¬ n < 0 ∧ n.toNatClampNeg ≤ 60000 := by
  unfold szk at h
  simpa only [Bool.and_eq_true, decide_eq_true_eq] using h
def b5 {α β γ δ ε ζ : Type} (o : Option (α × β × γ × δ × ε)) (k : α → β → γ → δ → ε → Option ζ) : Option ζ := o.bind fun p => k p.1 p.2.1 p.2.2.1 p.2.2.2.1 p.2.2.2.2
def b6 {α β γ δ ε ζ η : Type} (o : Option (α × β × γ × δ × ε × ζ)) (k : α → β → γ → δ → ε → ζ → Option η) : Option η := o.bind fun p => k p.1 p.2.1 p.2.2.1 p.2.2.2.1 p.2.2.2.2.1 p.2.2.2.2.2
def b7 {α β γ δ ε ζ η θ : Type} (o : Option (α × β × γ × δ × ε × ζ × η)) (k : α → β → γ → δ → ε → ζ → η → Option θ) : Option θ := o.bind fun p => k p.1 p.2.1 p.2.2.1 p.2.2.2.1 p.2.2.2.2.1 p.2.2.2.2.2.1 p.2.2.2.2.2.2
def b8 {α β γ δ ε ζ η θ ι : Type} (o : Option (α × β × γ × δ × ε × ζ × η × θ)) (k : α → β → γ → δ → ε → ζ → η → θ → Option ι) : Option ι := o.bind fun p => k p.1 p.2.1 p.2.2.1 p.2.2.2.1 p.2.2.2.2.1 p.2.2.2.2.2.1 p.2.2.2.2.2.2.1 p.2.2.2.2.2.2.2
theorem b5s {α β γ δ ε ζ : Type} {o : Option (α × β × γ × δ × ε)} {k : α → β → γ → δ → ε → Option ζ} {r : ζ} (h : b5 o k = some r) : ∃ a b c d e, o = some (a, b, c, d, e) ∧ k a b c d e = some r := by
  obtain ⟨⟨a, b, c, d, e⟩, h1, h2⟩ := bs h
  exact ⟨a, b, c, d, e, h1, h2⟩
theorem b6s {α β γ δ ε ζ η : Type} {o : Option (α × β × γ × δ × ε × ζ)} {k : α → β → γ → δ → ε → ζ → Option η} {r : η} (h : b6 o k = some r) : ∃ a b c d e f, o = some (a, b, c, d, e, f) ∧ k a b c d e f = some r := by
  obtain ⟨⟨a, b, c, d, e, f⟩, h1, h2⟩ := bs h
  exact ⟨a, b, c, d, e, f, h1, h2⟩
theorem b7s {α β γ δ ε ζ η θ : Type} {o : Option (α × β × γ × δ × ε × ζ × η)} {k : α → β → γ → δ → ε → ζ → η → Option θ} {r : θ} (h : b7 o k = some r) : ∃ a b c d e f g, o = some (a, b, c, d, e, f, g) ∧ k a b c d e f g = some r := by
  obtain ⟨⟨a, b, c, d, e, f, g⟩, h1, h2⟩ := bs h
  exact ⟨a, b, c, d, e, f, g, h1, h2⟩
theorem b8s {α β γ δ ε ζ η θ ι : Type} {o : Option (α × β × γ × δ × ε × ζ × η × θ)} {k : α → β → γ → δ → ε → ζ → η → θ → Option ι} {r : ι} (h : b8 o k = some r) : ∃ a b c d e f g i, o = some (a, b, c, d, e, f, g, i) ∧ k a b c d e f g i = some r := by
  obtain ⟨⟨a, b, c, d, e, f, g, i⟩, h1, h2⟩ := bs h
  exact ⟨a, b, c, d, e, f, g, i, h1, h2⟩
/-- what System.arraycopy leaves, by place -/
def cpI (I : xI) (a sp b dp n : Nat) : xI := fun q => if q = b then va_cpy (I a) (I b) sp dp n else I q
def cpR (R : xR) (a sp b dp n : Nat) : xR := fun q => if q = b then va_cpy (R a) (R b) sp dp n else R q
/-- the lengths fit a copy -/
def cpk (N : xT) (a : Nat) (sp : Int32) (b : Nat) (dp n : Int32) : Bool := decide (¬ sp < 0) && decide (¬ dp < 0) && decide (¬ n < 0) && decide (sp.toNatClampNeg + n.toNatClampNeg ≤ N a) && decide (dp.toNatClampNeg + n.toNatClampNeg ≤ N b)
theorem cpk_s {N : xT} {a b : Nat} {sp dp n : Int32} (h : cpk N a sp b dp n = true) : ¬ sp < 0 ∧ ¬ dp < 0 ∧ ¬ n < 0 ∧ sp.toNatClampNeg + n.toNatClampNeg ≤ N a ∧ dp.toNatClampNeg + n.toNatClampNeg ≤ N b := by
  unfold cpk at h
  simp only [Bool.and_eq_true, decide_eq_true_eq] at h
  obtain ⟨⟨⟨⟨h1, h2⟩, h3⟩, h4⟩, h5⟩ := h
  exact ⟨h1, h2, h3, h4, h5⟩
/-- what a method that may throw answers: the thrown object's address, or its value -/
def xc {α β : Type} (r : Nat ⊕ α) (kx : Nat → Option β) (kn : α → Option β) : Option β := match r with
  | .inl a => kx a
  | .inr v => kn v
theorem xc_s {α β : Type} {r : Nat ⊕ α} {kx : Nat → Option β} {kn : α → Option β} {z : β} (h : xc r kx kn = some z) : (∃ a, r = .inl a ∧ kx a = some z) ∨ ∃ v, r = .inr v ∧ kn v = some z := by
  cases r with
  | inl a => exact Or.inl ⟨a, rfl, h⟩
  | inr v => exact Or.inr ⟨v, rfl, h⟩
/-- the tags of Compare, Not, Several -/
def isTe (t : Nat) : Bool := decide (t = 13) || decide (t = 14) || decide (t = 15)
theorem isTe_or {t : Nat} (h : isTe t = true) : t = 13 ∨ t = 14 ∨ t = 15 := by
  unfold isTe at h
  simp only [Bool.or_eq_true, decide_eq_true_eq] at h
  omega
/-- what a char can be -/
def chb (v : Int32) : Bool := decide (v.toUInt32.toUInt16.toUInt32.toInt32 = v)
theorem chb_n {v : Int32} (h : chb v = true) : narrow .char (.int v) = .int v := by
  have h1 : v.toUInt32.toUInt16.toUInt32.toInt32 = v := of_decide_eq_true h
  show Value.int (v.toUInt32.toUInt16.toUInt32.toInt32) = .int v
  rw [h1]
theorem chb_f {v : Int32} (h : chb v = true) : fits .char (.int v) = true := by
  rw [← chb_n h]
  exact fits_narrow_char v
/-- what a byte can be -/
def byb (v : Int32) : Bool := decide (v.toInt8.toInt32 = v)
theorem byb_n {v : Int32} (h : byb v = true) : narrow .byte (.int v) = .int v := by
  have h1 : v.toInt8.toInt32 = v := of_decide_eq_true h
  show Value.int (v.toInt8.toInt32) = .int v
  rw [h1]
/-- the tags of what lists hold: Clause, Compare, Not, Several, Order, Law -/
def stO (t : Nat) : Bool := decide (t = 9) || decide (t = 13) || decide (t = 14) || decide (t = 15) || decide (t = 16) || decide (t = 17)
theorem stO_or {t : Nat} (h : stO t = true) : t = 9 ∨ t = 13 ∨ t = 14 ∨ t = 15 ∨ t = 16 ∨ t = 17 := by
  unfold stO at h
  simp only [Bool.or_eq_true, decide_eq_true_eq] at h
  omega
/-- what is copied are such, or null -/
def cpo (T : xT) (R : xR) (a sp n : Nat) : Bool := (List.range n).all fun i => match R a (sp + i) with
  | none => true
  | some y => stO (T y)
theorem cpo_s {T : xT} {R : xR} {a sp n : Nat} (h : cpo T R a sp n = true) {i y : Nat} (hi : i < n) (hy : R a (sp + i) = some y) : stO (T y) = true := by
  unfold cpo at h
  have h1 := List.all_eq_true.mp h i (List.mem_range.mpr hi)
  rw [hy] at h1
  exact h1
