/-! PLAIN LAND, 40: texts, read plainly -/
def scn (P : Nat → Bool) : Nat → Nat → Nat
  | 0, i => i
  | f + 1, i => if P i = true then scn P f (i + 1) else i
/-- from i on, as long as P, before sz -/
def scan (P : Nat → Bool) (sz i : Nat) : Nat := scn P (sz - i) i
theorem scan_s {P : Nat → Bool} {sz i : Nat} (h : i < sz) : scan P sz i = if P i = true then scan P sz (i + 1) else i := by
  unfold scan
  obtain ⟨z, hz⟩ : ∃ z, sz - i = z + 1 := ⟨sz - i - 1, by omega⟩
  rw [hz, show sz - (i + 1) = z by omega]
  rfl
theorem scan_e {P : Nat → Bool} {sz i : Nat} (h : sz ≤ i) : scan P sz i = i := by
  unfold scan
  rw [show sz - i = 0 by omega]
  rfl
theorem scan_le {P : Nat → Bool} {sz : Nat} : ∀ (m i : Nat), i + m = sz → i ≤ scan P sz i ∧ scan P sz i ≤ sz := by
  intro m
  induction m with
  | zero => intro i hi; rw [scan_e (by omega)]; omega
  | succ m ih =>
    intro i hi
    rw [scan_s (by omega)]
    split
    · have := ih (i + 1) (by omega); omega
    · omega
/-- inside P holds, at the end not -/
theorem scan_in {P : Nat → Bool} {sz : Nat} : ∀ (m i : Nat), i + m = sz → (∀ j, i ≤ j → j < scan P sz i → P j = true) ∧ (scan P sz i < sz → P (scan P sz i) = false) := by
  intro m
  induction m with
  | zero => intro i hi; rw [scan_e (by omega)]; exact ⟨fun j h1 h2 => by omega, fun h => by omega⟩
  | succ m ih =>
    intro i hi
    rw [scan_s (by omega)]
    by_cases q : P i = true
    · rw [if_pos q]
      obtain ⟨h1, h2⟩ := ih (i + 1) (by omega)
      refine ⟨fun j a b => ?_, h2⟩
      by_cases e : j = i
      · rw [e]; exact q
      · exact h1 j (by omega) b
    · rw [if_neg q]
      exact ⟨fun j a b => by omega, fun _ => by simpa using q⟩
def isL (c : Nat) : Bool := decide (97 ≤ c) && decide (c ≤ 122)
def isD (c : Nat) : Bool := decide (48 ≤ c) && decide (c ≤ 57)
def skp (b : Nat → Nat) (sz i : Nat) : Nat := scan (fun j => decide (b j = 32)) sz i
def tnd (b : Nat → Nat) (sz i : Nat) : Nat := if sz ≤ i then i else if isL (b i) = true then scan (fun j => isL (b j)) sz i else if isD (b i) = true then scan (fun j => isD (b j)) sz i else i + 1
def nxt (b : Nat → Nat) (sz i : Nat) : Nat := skp b sz (tnd b sz i)
def srt (b : Nat → Nat) (sz i : Nat) : Nat := if sz ≤ i then 0 else if isL (b i) = true then 1 else if isD (b i) = true then 2 else 3
/-- the number that d digits from i on tell behind v -/
def dvl (b : Nat → Nat) : Nat → Nat → Nat → Nat
  | 0, _, v => v
  | d + 1, i, v => dvl b d (i + 1) (10 * v + (b i - 48))
def dval (b : Nat → Nat) (sz i : Nat) : Nat := dvl b (tnd b sz i - i) i 0
/-- these letters from i on -/
def chs (b : Nat → Nat) : List Nat → Nat → Bool
  | [], _ => true
  | c :: r, i => decide (b i = c) && chs b r (i + 1)
def wd (b : Nat → Nat) (sz i : Nat) (cs : List Nat) : Bool := decide (srt b sz i = 1) && (decide (tnd b sz i = i + cs.length) && chs b cs i)
def sg (b : Nat → Nat) (sz i c : Nat) : Bool := decide (i < sz) && decide (b i = c)
def numB (b : Nat → Nat) (sz i lo hi : Nat) : Option Nat := if srt b sz i = 2 ∧ lo ≤ dval b sz i ∧ dval b sz i ≤ hi then some (dval b sz i) else none
/-- the first of these words -/
def fnW (b : Nat → Nat) (sz i : Nat) : List (List Nat) → Nat → Option Nat
  | [], _ => none
  | w :: r, k => if wd b sz i w = true then some k else fnW b sz i r (k + 1)
def wsL : List (List Nat) := [[99, 104, 105, 108, 100], [97, 103, 101], [108, 97, 110, 101], [108, 111, 110, 103], [115, 105, 103, 104, 116], [99, 111, 114, 110, 101, 114], [108, 97, 115, 116], [104, 111, 117, 114], [109, 111, 111, 100]]
def wsO : List (List Nat) := [[104, 111, 117, 114], [100, 111, 110, 101], [108, 97, 116, 101, 115, 116], [110, 97, 109, 101, 100], [107, 105, 100, 115], [97, 116], [112, 108, 97, 116, 101]]
def hdL : List (List Nat) := [[116, 117, 114, 110, 115], [115, 97, 121, 115], [98, 97, 114, 115]]
def hdO : List (List Nat) := [[119, 97, 110, 100, 101, 114], [99, 114, 121], [108, 101, 97, 100], [112, 97, 115, 115]]
/-- the value that a word is -/
def vl (lg : Bool) (b : Nat → Nat) (sz i : Nat) : Option (Nat ⊕ (Nat × Nat)) := match lg with
  | false => match fnW b sz i wsL 0 with
    | none => none
    | some k => some (.inr (k, nxt b sz i))
  | true => match fnW b sz i wsO 0 with
    | none => none
    | some k => if k < 5 then some (.inr (k, nxt b sz i)) else match numB b sz (nxt b sz i) 0 (if k = 5 then 3 else 9) with
      | none => some (.inl (nxt b sz i))
      | some v => some (.inr ((if k = 5 then 5 else 9) + v, nxt b sz (nxt b sz i)))
/-- an error's place; or where it goes on, how many leaves, what was read -/
abbrev Rs (α : Type) : Type := Nat ⊕ (Nat × Nat × α)
section
variable (lg : Bool) (b : Nat → Nat) (sz : Nat)
def spPart (sm : Nat → Nat → Nat → Rs Den) (dp i lv : Nat) : Rs Den :=
  if sg b sz i 91 = true then
    if dp = 8 then .inl i else
    match sm (dp + 1) (nxt b sz i) lv with
    | .inl e => .inl e
    | .inr (j, lv', d) => if sg b sz j 93 = true then .inr (nxt b sz j, lv', d) else .inl j
  else if srt b sz i = 2 then
    if lv = 50 then .inl i else
    match numB b sz i 0 1000 with
    | none => .inl i
    | some v => .inr (nxt b sz i, lv + 1, fun _ => some (jj v))
  else match vl lg b sz i with
    | none => .inl i
    | some r => if lv = 50 then .inl i else
      match r with
      | .inl e => .inl e
      | .inr (k, j) => .inr (j, lv + 1, fun v => some (v k))
def mulO (i : Nat) : Option Nat := if sg b sz i 42 = true then some 22 else if sg b sz i 47 = true then some 23 else if sg b sz i 37 = true then some 24 else none
def addO (i : Nat) : Option Nat := if sg b sz i 43 = true then some 20 else if sg b sz i 45 = true then some 21 else none
def cmpO (i : Nat) : Option Nat := if sg b sz i 60 = true then some 25 else if sg b sz i 62 = true then some 26 else if sg b sz i 61 = true then some 27 else none
def spTermL (sm : Nat → Nat → Nat → Rs Den) (dp : Nat) : Nat → Nat → Nat → Den → Rs Den
  | 0, i, _, _ => .inl i
  | f + 1, i, lv, d => match mulO b sz i with
    | none => .inr (i, lv, d)
    | some o => match spPart lg b sz sm dp (nxt b sz i) lv with
      | .inl e => .inl e
      | .inr (j, lv', d') => spTermL sm dp f j lv' (twoD o d d')
def spTerm (sm : Nat → Nat → Nat → Rs Den) (dp i lv : Nat) : Rs Den := match spPart lg b sz sm dp i lv with
  | .inl e => .inl e
  | .inr (j, lv', d) => spTermL lg b sz sm dp 401 j lv' d
def spSumL (sm : Nat → Nat → Nat → Rs Den) (dp : Nat) : Nat → Nat → Nat → Den → Rs Den
  | 0, i, _, _ => .inl i
  | f + 1, i, lv, d => match addO b sz i with
    | none => .inr (i, lv, d)
    | some o => match spTerm lg b sz sm dp (nxt b sz i) lv with
      | .inl e => .inl e
      | .inr (j, lv', d') => spSumL sm dp f j lv' (twoD o d d')
def spSum : Nat → Nat → Nat → Nat → Rs Den
  | 0, _, i, _ => .inl i
  | D + 1, dp, i, lv => match spTerm lg b sz (spSum D) dp i lv with
    | .inl e => .inl e
    | .inr (j, lv', d) => spSumL lg b sz (spSum D) dp 401 j lv' d
def spPos (ts : Nat → Nat → Nat → Rs TDen) (dp i lv : Nat) : Rs TDen :=
  if sg b sz i 40 = true then
    if dp = 8 then .inl i else
    match ts (dp + 1) (nxt b sz i) lv with
    | .inl e => .inl e
    | .inr (j, lv', d) => if sg b sz j 41 = true then .inr (nxt b sz j, lv', d) else .inl j
  else match spSum lg b sz 12 dp i lv with
    | .inl e => .inl e
    | .inr (j, lv', d) => match cmpO b sz j with
      | none => .inl j
      | some o => match spSum lg b sz 12 dp (nxt b sz j) lv' with
        | .inl e => .inl e
        | .inr (j', lv'', d') => .inr (j', lv'', cmpD o d d')
def spPlain (ts : Nat → Nat → Nat → Rs TDen) (dp : Nat) : Nat → Nat → Nat → Bool → Rs TDen
  | 0, i, _, _ => .inl i
  | f + 1, i, lv, nt => if wd b sz i [110, 111, 116] = true then spPlain ts dp f (nxt b sz i) lv (!nt) else
    match spPos lg b sz ts dp i lv with
    | .inl e => .inl e
    | .inr (j, lv', d) => .inr (j, lv', if nt = true then notD d else d)
def spBothL (ts : Nat → Nat → Nat → Rs TDen) (dp : Nat) : Nat → Nat → Nat → TDen → Rs TDen
  | 0, i, _, _ => .inl i
  | f + 1, i, lv, d => if wd b sz i [97, 110, 100] = true then
      match spPlain lg b sz ts dp 401 (nxt b sz i) lv false with
      | .inl e => .inl e
      | .inr (j, lv', d') => spBothL ts dp f j lv' (jnD true d d')
    else .inr (i, lv, d)
def spBoth (ts : Nat → Nat → Nat → Rs TDen) (dp i lv : Nat) : Rs TDen := match spPlain lg b sz ts dp 401 i lv false with
  | .inl e => .inl e
  | .inr (j, lv', d) => spBothL lg b sz ts dp 401 j lv' d
def spTestL (ts : Nat → Nat → Nat → Rs TDen) (dp : Nat) : Nat → Nat → Nat → TDen → Rs TDen
  | 0, i, _, _ => .inl i
  | f + 1, i, lv, d => if wd b sz i [111, 114] = true then
      match spBoth lg b sz ts dp (nxt b sz i) lv with
      | .inl e => .inl e
      | .inr (j, lv', d') => spTestL ts dp f j lv' (jnD false d d')
    else .inr (i, lv, d)
def spTest : Nat → Nat → Nat → Nat → Rs TDen
  | 0, _, i, _ => .inl i
  | D + 1, dp, i, lv => match spBoth lg b sz (spTest D) dp i lv with
    | .inl e => .inl e
    | .inr (j, lv', d) => spTestL lg b sz (spTest D) dp 401 j lv' d
/-- head, sums, times, test -/
abbrev Cls : Type := Nat × Den × Den × Nat × Option TDen
def noD : Den := fun _ => none
def spIf (i lv : Nat) (k : Nat → Nat → Option TDen → Rs Cls) : Rs Cls :=
  if wd b sz i [105, 102] = true then
    match spTest lg b sz 12 0 (nxt b sz i) lv with
    | .inl e => .inl e
    | .inr (j, lv', d) => k j lv' (some d)
  else k i lv none
def spSm (c : Bool) (i lv : Nat) (k : Nat → Nat → Den → Rs Cls) : Rs Cls :=
  if c = true then
    match spSum lg b sz 12 0 i lv with
    | .inl e => .inl e
    | .inr (j, lv', d) => k j lv' d
  else k i lv noD
def spClL (i lv mk : Nat) : Rs Cls := match fnW b sz i hdL 0 with
  | none => .inl i
  | some h => if mk = 12 then .inl i else
    spSm false b sz (decide (h ≠ 2)) (nxt b sz i) lv fun j lv1 d => spIf false b sz j lv1 fun j2 lv2 t => .inr (j2, lv2, h, d, noD, 1, t)
def spTimes (i : Nat) (k : Nat → Nat → Rs Cls) : Rs Cls :=
  if wd b sz i [116, 105, 109, 101, 115] = true then
    match numB b sz (nxt b sz i) 1 20 with
    | none => .inl (nxt b sz i)
    | some v => k (nxt b sz (nxt b sz i)) v
  else k i 1
def spTo (c : Bool) (i : Nat) (k : Nat → Rs Cls) : Rs Cls := if c = true then (if wd b sz i [116, 111] = true then k (nxt b sz i) else .inl i) else k i
def spClO (i lv mk : Nat) : Rs Cls := match fnW b sz i hdO 0 with
  | none => .inl i
  | some h => if mk = 12 then .inl i else
    spSm true b sz (decide (h ≠ 3)) (nxt b sz i) lv fun j lv1 d => spTo b sz (decide (h = 2)) j fun j => spSm true b sz (decide (h = 2)) j lv1 fun j lv2 d2 =>
      spTimes b sz j fun j v => spIf true b sz j lv2 fun j2 lv3 t => .inr (j2, lv3, h, d, d2, v, t)
def spCl (i lv mk : Nat) : Rs Cls := match lg with
  | false => spClL b sz i lv mk
  | true => spClO b sz i lv mk
/-- the clauses: how many, which; or the error's place -/
def spText : Nat → Nat → Nat → Nat → (Nat → Cls) → Nat ⊕ (Nat × (Nat → Cls))
  | 0, i, _, _, _ => .inl i
  | f + 1, i, lv, mk, cl => match spCl lg b sz i lv mk with
    | .inl e => .inl e
    | .inr (j, lv', c) => if sg b sz j 59 = true then spText f (nxt b sz j) lv' (mk + 1) (fun q => if q = mk then c else cl q) else
      if j < sz then .inl j else .inr (mk + 1, fun q => if q = mk then c else cl q)
end
/-! tokens -/
section
variable {b : Nat → Nat} {sz i : Nat}
/-- where tokens begin -/
def tk (b : Nat → Nat) (sz i : Nat) : Prop := i ≤ sz ∧ (i < sz → b i ≠ 32)
theorem skp_tk (h : i ≤ sz) : tk b sz (skp b sz i) ∧ i ≤ skp b sz i := by
  unfold tk skp
  have h1 := scan_le (P := fun j => decide (b j = 32)) (sz := sz) (sz - i) i (by omega)
  have h2 := scan_in (P := fun j => decide (b j = 32)) (sz := sz) (sz - i) i (by omega)
  refine ⟨⟨h1.2, fun h => by simpa using h2.2 h⟩, h1.1⟩
theorem tnd_lt (h : i < sz) : i < tnd b sz i ∧ tnd b sz i ≤ sz := by
  unfold tnd
  rw [if_neg (by omega)]
  split
  · rename_i q
    rw [scan_s h, if_pos q]
    have := scan_le (P := fun j => isL (b j)) (sz := sz) (sz - (i + 1)) (i + 1) (by omega)
    omega
  · split
    · rename_i q
      rw [scan_s h, if_pos q]
      have := scan_le (P := fun j => isD (b j)) (sz := sz) (sz - (i + 1)) (i + 1) (by omega)
      omega
    · omega
theorem tnd_e (h : sz ≤ i) : tnd b sz i = i := by unfold tnd; rw [if_pos h]
theorem tnd_le (h : i ≤ sz) : i ≤ tnd b sz i ∧ tnd b sz i ≤ sz := by
  by_cases q : i < sz
  · have := tnd_lt (b := b) q; omega
  · rw [tnd_e (by omega)]; omega
theorem nxt_tk (h : i ≤ sz) : tk b sz (nxt b sz i) ∧ i ≤ nxt b sz i ∧ (i < sz → i < nxt b sz i) := by
  have h1 := tnd_le (b := b) h
  have h2 := skp_tk (b := b) h1.2
  refine ⟨h2.1, by unfold nxt; omega, fun q => ?_⟩
  have := tnd_lt (b := b) q
  unfold nxt
  omega
theorem sg_lt {c : Nat} (h : sg b sz i c = true) : i < sz ∧ b i = c := by
  unfold sg at h
  simpa using h
theorem srt_lt (h : srt b sz i ≠ 0) : i < sz := by
  unfold srt at h
  by_cases q : sz ≤ i
  · rw [if_pos q] at h; exact absurd rfl h
  · omega
theorem wd_lt {w : List Nat} (h : wd b sz i w = true) : i < sz := by
  unfold wd at h
  rw [Bool.and_eq_true] at h
  exact srt_lt (by rw [of_decide_eq_true h.1]; decide)
theorem fnW_lt : ∀ (ws : List (List Nat)) (k r : Nat), fnW b sz i ws k = some r → i < sz ∧ r < k + ws.length := by
  intro ws
  induction ws with
  | nil => intro k r h; cases h
  | cons w ws ih =>
    intro k r h
    unfold fnW at h
    by_cases q : wd b sz i w = true
    · rw [if_pos q] at h
      cases h
      exact ⟨wd_lt q, by simp⟩
    · rw [if_neg q] at h
      have := ih (k + 1) r h
      simp only [List.length_cons]
      omega
theorem numB_lt {lo hi v : Nat} (h : numB b sz i lo hi = some v) : i < sz ∧ lo ≤ v ∧ v ≤ hi ∧ v = dval b sz i ∧ srt b sz i = 2 := by
  unfold numB at h
  split at h
  · rename_i q
    cases h
    exact ⟨srt_lt (by rw [q.1]; decide), q.2.1, q.2.2, rfl, q.1⟩
  · cases h
end
/-- going on: never back, leaves within bounds -/
def Adv {α : Type} (b : Nat → Nat) (sz i lv : Nat) (r : Rs α) : Prop := match r with
  | .inl e => i ≤ e ∧ e ≤ sz
  | .inr (j, lv', _) => i < j ∧ tk b sz j ∧ lv ≤ lv' ∧ lv' ≤ 50
def Adv0 {α : Type} (b : Nat → Nat) (sz i lv : Nat) (r : Rs α) : Prop := match r with
  | .inl e => i ≤ e ∧ e ≤ sz
  | .inr (j, lv', _) => i ≤ j ∧ tk b sz j ∧ lv ≤ lv' ∧ lv' ≤ 50
