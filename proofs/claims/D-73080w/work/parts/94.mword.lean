/-! PLAIN LAND, 44: words, signs, numbers as the model knows them -/
/-- the worth of the first d letters from i on -/
def eV (b : Nat → Nat) (i : Nat) : Nat → Nat
  | 0 => 0
  | d + 1 => 32 * eV b i d + (b (i + d) - 96)
theorem eV_lt (b : Nat → Nat) (i : Nat) : ∀ d, (∀ k, k < d → isL (b (i + k)) = true) → eV b i d < 32 ^ d := by
  intro d
  induction d with
  | zero => intro _; show 0 < 32 ^ 0; decide
  | succ d ih =>
    intro h
    have h1 := ih (fun k hk => h k (by omega))
    have h2 := h d (by omega)
    unfold isL at h2
    simp only [Bool.and_eq_true, decide_eq_true_eq] at h2
    show 32 * eV b i d + (b (i + d) - 96) < 32 ^ (d + 1)
    rw [Nat.pow_succ]
    omega
theorem eV_inj (b b' : Nat → Nat) (i i' : Nat) : ∀ d d', (∀ k, k < d → isL (b (i + k)) = true) → (∀ k, k < d' → isL (b' (i' + k)) = true) → eV b i d = eV b' i' d' → d = d' ∧ ∀ k, k < d → b (i + k) = b' (i' + k) := by
  have il : ∀ c, isL c = true → 97 ≤ c ∧ c ≤ 122 := by
    intro c h
    unfold isL at h
    simpa only [Bool.and_eq_true, decide_eq_true_eq] using h
  intro d
  induction d with
  | zero =>
    intro d' _ h2 e
    cases d' with
    | zero => exact ⟨rfl, fun k hk => absurd hk (Nat.not_lt_zero _)⟩
    | succ d' =>
      have := il _ (h2 d' (by omega))
      have e : 0 = 32 * eV b' i' d' + (b' (i' + d') - 96) := e
      omega
  | succ d ih =>
    intro d' h1 h2 e
    have a1 := il _ (h1 d (by omega))
    cases d' with
    | zero =>
      have e : 32 * eV b i d + (b (i + d) - 96) = 0 := e
      omega
    | succ d' =>
      have a2 := il _ (h2 d' (by omega))
      have e : 32 * eV b i d + (b (i + d) - 96) = 32 * eV b' i' d' + (b' (i' + d') - 96) := e
      obtain ⟨q1, q2⟩ := ih d' (fun k hk => h1 k (by omega)) (fun k hk => h2 k (by omega)) (by omega)
      subst q1
      refine ⟨rfl, fun k hk => ?_⟩
      by_cases c : k = d
      · rw [c]; omega
      · exact q2 k (by omega)
theorem jj_eq {a b : Nat} (ha : a < 9223372036854775808) (hb : b < 9223372036854775808) : (jj a = jj b) = (a = b) := by
  apply propext
  constructor
  · intro h
    have := congrArg Int64.toInt h
    rw [jj_toInt ha, jj_toInt hb] at this
    omega
  · intro h; rw [h]
theorem jj_le {a b : Nat} (ha : a < 9223372036854775808) (hb : b < 9223372036854775808) : (jj a ≤ jj b) = (a ≤ b) := by
  rw [leL_int, jj_toInt ha, jj_toInt hb]
  apply propext
  omega
theorem jj_add (a b : Nat) : jj a + jj b = jj (a + b) := (Int64.ofNat_add a b).symm
theorem jj_mul (a b : Nat) : jj a * jj b = jj (a * b) := (Int64.ofNat_mul a b).symm
theorem jj_sub {a b : Nat} (h : b ≤ a) : jj a - jj b = jj (a - b) := by
  have h1 : jj a = jj (a - b) + jj b := by rw [jj_add]; congr 1; omega
  rw [h1, Int64.add_sub_cancel]
theorem wwd_eV (b : Nat → Nat) (i : Nat) : ∀ d k, k + d ≤ 10 → (∀ j, j < k + d → isL (b (i + j)) = true) → wwd b i d (i + k) (jj (eV b i k)) = jj (eV b i (k + d)) := by
  intro d
  induction d with
  | zero => intro k _ _; rfl
  | succ d ih =>
    intro k hk h
    have h1 := h k (by omega)
    unfold isL at h1
    simp only [Bool.and_eq_true, decide_eq_true_eq] at h1
    unfold wwd
    rw [if_pos (by omega), jj_mul, jj_add, jj_sub (by omega)]
    have e : eV b i k * 32 + b (i + k) - 96 = eV b i (k + 1) := by
      show _ = 32 * eV b i k + (b (i + k) - 96)
      omega
    rw [e]
    have := ih (k + 1) (by omega) (fun j hj => h j (by omega))
    rw [show i + (k + 1) = i + k + 1 by omega] at this
    rw [this, show k + 1 + d = k + (d + 1) by omega]
theorem wwd_long (b : Nat → Nat) (i : Nat) : ∀ d j w, 1 ≤ d → i ≤ j → 10 < (j - i) + d → wwd b i d j w = -1 := by
  intro d
  induction d with
  | zero => intro j w h; omega
  | succ d ih =>
    intro j w _ hj h
    unfold wwd
    by_cases q : d = 0
    · subst q
      rw [if_neg (by omega)]
      rfl
    · exact ih (j + 1) _ (by omega) (by omega) (by omega)
theorem chs_iff (b : Nat → Nat) : ∀ (cs : List Nat) (i : Nat), chs b cs i = true ↔ ∀ k, k < cs.length → b (i + k) = cs.getD k 0 := by
  intro cs
  induction cs with
  | nil => intro i; exact ⟨fun _ k hk => absurd hk (Nat.not_lt_zero _), fun _ => rfl⟩
  | cons c r ih =>
    intro i
    unfold chs
    rw [Bool.and_eq_true, decide_eq_true_eq, ih (i + 1)]
    constructor
    · rintro ⟨h1, h2⟩ k hk
      cases k with
      | zero => exact h1
      | succ k =>
        rw [show i + (k + 1) = i + 1 + k by omega]
        exact h2 k (by simpa using hk)
    · intro h
      refine ⟨h 0 (by simp), fun k hk => ?_⟩
      have := h (k + 1) (by simpa using hk)
      rw [show i + 1 + k = i + (k + 1) by omega]
      exact this
/-- this word has this worth -/
def wOK (cs : List Nat) (w : Nat) : Prop := cs.all isL = true ∧ cs.length ≤ 10 ∧ eV (fun k => cs.getD k 0) 0 cs.length = w ∧ w < 9223372036854775808
theorem wd_iff {b : Nat → Nat} {sz i : Nat} {cs : List Nat} {w : Nat} (h : wOK cs w) : wd b sz i cs = decide (srt b sz i = 1 ∧ wth b sz i = jj w) := by
  obtain ⟨h1, h2, h3, h4⟩ := h
  have hl : ∀ k, k < cs.length → isL (cs.getD k 0) = true := by
    intro k hk
    rw [List.getD_eq_getElem?_getD, List.getElem?_eq_getElem hk]
    exact List.all_eq_true.mp h1 _ (List.getElem_mem hk)
  by_cases q : srt b sz i = 1
  · have hsz : ¬ sz ≤ i := fun c => by unfold srt at q; rw [if_pos c] at q; cases q
    have hL : isL (b i) = true := by
      unfold srt at q
      rw [if_neg hsz] at q
      by_cases c : isL (b i) = true
      · exact c
      · rw [if_neg c] at q
        split at q <;> cases q
    have et : tnd b sz i = scan (fun j => isL (b j)) sz i := by unfold tnd; rw [if_neg hsz, if_pos hL]
    have hin := (scan_in (P := fun j => isL (b j)) (sz := sz) (sz - i) i (by omega)).1
    have hlt := tnd_lt (b := b) (show i < sz by omega)
    rw [← et] at hin
    have hin' : ∀ k, k < tnd b sz i - i → isL (b (i + k)) = true := fun k hk => hin (i + k) (by omega) (by omega)
    have ew : wth b sz i = wwd b i (tnd b sz i - i) i (jj 0) := by unfold wth; rw [if_pos q]
    unfold wd
    rw [ew]
    apply Bool.eq_iff_iff.mpr
    rw [Bool.and_eq_true, Bool.and_eq_true, decide_eq_true_eq, decide_eq_true_eq, decide_eq_true_eq, chs_iff]
    by_cases c : tnd b sz i - i ≤ 10
    · have e := wwd_eV b i (tnd b sz i - i) 0 (by omega) (fun j hj => hin' j (by omega))
      have e0 : eV b i 0 = 0 := rfl
      rw [e0, Nat.add_zero, Nat.zero_add] at e
      have lt := eV_lt b i (tnd b sz i - i) hin'
      have lt2 : 32 ^ (tnd b sz i - i) ≤ 32 ^ 10 := Nat.pow_le_pow_right (by decide) c
      have lt3 : (32 : Nat) ^ 10 < 9223372036854775808 := by decide
      rw [e, jj_eq (by omega) h4, ← h3]
      constructor
      · rintro ⟨_, h5, h6⟩
        refine ⟨q, ?_⟩
        rw [h5, show i + cs.length - i = cs.length by omega]
        have : ∀ d, d ≤ cs.length → eV b i d = eV (fun k => cs.getD k 0) 0 d := by
          intro d
          induction d with
          | zero => intro _; rfl
          | succ d ih =>
            intro hd
            show 32 * eV b i d + (b (i + d) - 96) = 32 * eV (fun k => cs.getD k 0) 0 d + (cs.getD (0 + d) 0 - 96)
            rw [ih (by omega), h6 d (by omega), Nat.zero_add]
        exact this _ (Nat.le_refl _)
      · rintro ⟨_, h5⟩
        obtain ⟨q1, q2⟩ := eV_inj b (fun k => cs.getD k 0) i 0 _ _ hin' (fun k hk => by rw [Nat.zero_add]; exact hl k hk) h5
        refine ⟨q, by omega, fun k hk => ?_⟩
        have := q2 k (by omega)
        rw [this, Nat.zero_add]
    · rw [wwd_long b i _ i _ (by omega) (Nat.le_refl _) (by omega)]
      constructor
      · rintro ⟨_, h5, _⟩
        omega
      · rintro ⟨_, h5⟩
        have := congrArg Int64.toInt h5
        rw [jj_toInt h4, show (-1 : Int64).toInt = -1 by decide] at this
        omega
  · unfold wd
    rw [decide_eq_false q, Bool.false_and]
    exact (decide_eq_false (fun h => q h.1)).symm
theorem sg_iff {b : Nat → Nat} {sz i c : Nat} (hb : b i < 256) (hc : c < 256) (h1 : isL c = false) (h2 : isD c = false) : sg b sz i c = decide (srt b sz i = 3 ∧ wth b sz i = jj c) := by
  unfold sg
  apply Bool.eq_iff_iff.mpr
  rw [Bool.and_eq_true, decide_eq_true_eq, decide_eq_true_eq, decide_eq_true_eq]
  constructor
  · rintro ⟨a1, a2⟩
    have es : srt b sz i = 3 := by
      unfold srt
      rw [if_neg (by omega), a2, h1, h2]
      rfl
    refine ⟨es, ?_⟩
    unfold wth
    rw [es, if_neg (by omega), if_neg (by omega), if_pos rfl, a2]
  · rintro ⟨a1, a2⟩
    refine ⟨srt_lt (by rw [a1]; decide), ?_⟩
    unfold wth at a2
    rw [a1, if_neg (by omega), if_neg (by omega), if_pos rfl, jj_eq (by omega) (by omega)] at a2
    exact a2
theorem wdg_dvl (b : Nat → Nat) : ∀ d i w v, (∀ k, k < d → isD (b (i + k)) = true) → ((w = jj v ∧ v ≤ 10000009) ∨ ∃ x, w = jj x ∧ 1000000 < x ∧ x ≤ 10000009 ∧ 1000000 < v) →
    (wdg b d i w = jj (dvl b d i v) ∧ dvl b d i v ≤ 10000009) ∨ ∃ x, wdg b d i w = jj x ∧ 1000000 < x ∧ x ≤ 10000009 ∧ 1000000 < dvl b d i v := by
  intro d
  induction d with
  | zero => intro i w v _ h; exact h
  | succ d ih =>
    intro i w v hd h
    have h0 := hd 0 (by omega)
    unfold isD at h0
    simp only [Bool.and_eq_true, decide_eq_true_eq, Nat.add_zero] at h0
    unfold wdg dvl
    refine ih (i + 1) _ _ (fun k hk => by rw [show i + 1 + k = i + (k + 1) by omega]; exact hd (k + 1) (by omega)) ?_
    rcases h with ⟨rfl, hv⟩ | ⟨x, rfl, hx, hx2, hv⟩
    · have hle : (jj v ≤ jj 1000000) = (v ≤ 1000000) := jj_le (by omega) (by omega)
      by_cases c : v ≤ 1000000
      · rw [if_pos (by rw [hle]; exact c), jj_mul, jj_add, jj_sub (by omega)]
        exact Or.inl ⟨by congr 1; omega, by omega⟩
      · rw [if_neg (by rw [hle]; exact c)]
        exact Or.inr ⟨v, rfl, by omega, hv, by omega⟩
    · have hle : (jj x ≤ jj 1000000) = (x ≤ 1000000) := jj_le (by omega) (by omega)
      rw [if_neg (by rw [hle]; omega)]
      exact Or.inr ⟨x, rfl, hx, hx2, by omega⟩
theorem wth_dig {b : Nat → Nat} {sz i : Nat} (h : srt b sz i = 2) : ∃ x, wth b sz i = jj x ∧ x ≤ 10000009 ∧ (x = dval b sz i ∨ (1000000 < x ∧ 1000000 < dval b sz i)) := by
  have hsz : ¬ sz ≤ i := fun c => by unfold srt at h; rw [if_pos c] at h; cases h
  have hlt := tnd_lt (b := b) (show i < sz by omega)
  have hin : ∀ k, k < tnd b sz i - i → isD (b (i + k)) = true := by
    unfold srt at h
    rw [if_neg hsz] at h
    by_cases c : isL (b i) = true
    · rw [if_pos c] at h; cases h
    · rw [if_neg c] at h
      by_cases c2 : isD (b i) = true
      · have et : tnd b sz i = scan (fun j => isD (b j)) sz i := by unfold tnd; rw [if_neg hsz, if_neg c, if_pos c2]
        have := (scan_in (P := fun j => isD (b j)) (sz := sz) (sz - i) i (by omega)).1
        rw [← et] at this
        exact fun k hk => this (i + k) (by omega) (by omega)
      · rw [if_neg c2] at h; cases h
  have ew : wth b sz i = wdg b (tnd b sz i - i) i (jj 0) := by unfold wth; rw [h]; rfl
  rw [ew]
  rcases wdg_dvl b (tnd b sz i - i) i (jj 0) 0 hin (Or.inl ⟨rfl, by omega⟩) with ⟨e1, e2⟩ | ⟨x, e1, e2, e3, e4⟩
  · exact ⟨_, e1, e2, Or.inl rfl⟩
  · exact ⟨x, e1, e3, Or.inr ⟨e2, e4⟩⟩
