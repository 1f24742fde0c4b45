/-! PLAIN LAND, 6: sets of 8 corners as numbers; twos of them that are together the least -/
def clr (S a : Nat) : Nat := if S.testBit a then S - 2 ^ a else S
def ctzN (S : Nat) : Nat := if S.testBit 0 then 0 else if S.testBit 1 then 1 else if S.testBit 2 then 2 else if S.testBit 3 then 3 else if S.testBit 4 then 4 else if S.testBit 5 then 5 else if S.testBit 6 then 6 else 7
def cdN (S : Nat) : Nat := (S.testBit 0).toNat + (S.testBit 1).toNat + (S.testBit 2).toNat + (S.testBit 3).toNat + (S.testBit 4).toNat + (S.testBit 5).toNat + (S.testBit 6).toNat + (S.testBit 7).toNat
theorem clr_mem : ∀ S, S < 256 → ∀ a, a < 8 → ∀ b, b < 8 → (clr S a).testBit b = (S.testBit b && decide (b ≠ a)) := by decide +kernel
theorem clr_lt : ∀ S, S < 256 → ∀ a, a < 8 → clr S a < 256 := by decide +kernel
theorem clr_less : ∀ S, S < 256 → ∀ a, a < 8 → S.testBit a = true → clr S a < S ∧ cdN (clr S a) + 1 = cdN S := by decide +kernel
theorem clr_comm : ∀ S, S < 256 → ∀ a, a < 8 → ∀ b, b < 8 → clr (clr S a) b = clr (clr S b) a := by decide +kernel
theorem ctz_ok : ∀ S, S < 256 → S ≠ 0 → ctzN S < 8 ∧ S.testBit (ctzN S) = true ∧ ∀ b, b < ctzN S → S.testBit b = false := by decide +kernel
theorem cd_0 : ∀ S, S < 256 → cdN S = 0 → S = 0 := by decide +kernel
theorem cd_pos : ∀ S, S < 256 → 1 ≤ cdN S → ∃ c, c < 8 ∧ S.testBit c = true := by
  intro S hS h
  have h0 : S ≠ 0 := by
    intro e
    subst e
    exact absurd h (by decide)
  exact ⟨_, (ctz_ok S hS h0).1, (ctz_ok S hS h0).2.1⟩
/-! loops that take the least -/
theorem mn_le {f : Nat → Nat → Nat} (h : ∀ i x, f i x ≤ x) : ∀ (n l x : Nat), rngF f n l x ≤ x := by
  intro n
  induction n with
  | zero => intro l x; exact Nat.le_refl _
  | succ n ih => intro l x; exact Nat.le_trans (ih (l + 1) (f l x)) (h l x)
theorem mn_hit {f : Nat → Nat → Nat} {w j : Nat} (h : ∀ i x, f i x ≤ x) (hj : ∀ x, f j x ≤ w) : ∀ (n l x : Nat), l ≤ j → j < l + n → rngF f n l x ≤ w := by
  intro n
  induction n with
  | zero => intro l x h1 h2; omega
  | succ n ih =>
    intro l x h1 h2
    by_cases q : l = j
    · subst q
      exact Nat.le_trans (mn_le h n (l + 1) (f l x)) (hj x)
    · exact ih (l + 1) (f l x) (by omega) (by omega)
theorem mn_at {f : Nat → Nat → Nat} {V : Nat → Prop} : ∀ (n l x : Nat), (∀ i x, l ≤ i → i < l + n → f i x = x ∨ V (f i x)) → rngF f n l x = x ∨ V (rngF f n l x) := by
  intro n
  induction n with
  | zero => intro l x _; exact Or.inl rfl
  | succ n ih =>
    intro l x h
    have h1 := ih (l + 1) (f l x) (fun i x a b => h i x (by omega) (by omega))
    rcases h1 with h1 | h1
    · rcases h l x (Nat.le_refl _) (by omega) with h2 | h2
      · left
        show rngF f n (l + 1) (f l x) = x
        rw [h1, h2]
      · right
        show V (rngF f n (l + 1) (f l x))
        rw [h1]
        exact h2
    · exact Or.inr h1
/-! the first corner with each other one -/
def puB (d : Nat → Nat) (f : Nat) (rec : Nat → Nat) (L c x : Nat) : Nat := if L.testBit c then min (d (8 * f + c) + rec (clr L c)) x else x
def pu (F : Nat) (d : Nat → Nat) : Nat → Nat → Nat
  | 0, _ => 0
  | e + 1, S => if S = 0 then 0 else rngF (puB d (ctzN S) (pu F d e) (clr S (ctzN S))) 8 0 F
theorem pu_s (F : Nat) (d : Nat → Nat) (e S : Nat) : pu F d (e + 1) S = if S = 0 then 0 else rngF (puB d (ctzN S) (pu F d e) (clr S (ctzN S))) 8 0 F := rfl
theorem puB_le (d : Nat → Nat) (f : Nat) (rec : Nat → Nat) (L c x : Nat) : puB d f rec L c x ≤ x := by
  unfold puB
  split <;> omega
theorem pu_F (F : Nat) (d : Nat → Nat) (e S : Nat) : pu F d e S ≤ F := by
  cases e with
  | zero => exact Nat.zero_le _
  | succ e =>
    unfold pu
    split
    · exact Nat.zero_le _
    · exact mn_le (puB_le _ _ _ _) _ _ _
theorem pu_le {F : Nat} {d : Nat → Nat} {e S c : Nat} (h0 : S ≠ 0) (hc : c < 8) (h : (clr S (ctzN S)).testBit c = true) : pu F d (e + 1) S ≤ d (8 * ctzN S + c) + pu F d e (clr (clr S (ctzN S)) c) := by
  rw [pu_s, if_neg h0]
  refine mn_hit (j := c) (puB_le _ _ _ _) (fun x => ?_) 8 0 F (Nat.zero_le _) (by omega)
  unfold puB
  rw [if_pos h]
  exact Nat.min_le_left _ _
theorem pu_at {F : Nat} {d : Nat → Nat} {e S : Nat} (h0 : S ≠ 0) : pu F d (e + 1) S = F ∨ ∃ c, c < 8 ∧ (clr S (ctzN S)).testBit c = true ∧ pu F d (e + 1) S = d (8 * ctzN S + c) + pu F d e (clr (clr S (ctzN S)) c) := by
  have h := mn_at (f := puB d (ctzN S) (pu F d e) (clr S (ctzN S))) (V := fun v => ∃ c, c < 8 ∧ (clr S (ctzN S)).testBit c = true ∧ v = d (8 * ctzN S + c) + pu F d e (clr (clr S (ctzN S)) c)) 8 0 F (by
    intro i x _ hi
    by_cases q : (clr S (ctzN S)).testBit i = true
    · by_cases q2 : x ≤ d (8 * ctzN S + i) + pu F d e (clr (clr S (ctzN S)) i)
      · left
        unfold puB
        rw [if_pos q]
        omega
      · right
        refine ⟨i, by omega, q, ?_⟩
        unfold puB
        rw [if_pos q]
        omega
    · left
      unfold puB
      rw [if_neg q])
  rw [pu_s, if_neg h0]
  exact h
/-- all of S are near each other -/
def nearS (d : Nat → Nat) (S : Nat) : Prop := ∀ a b, a < 8 → b < 8 → S.testBit a = true → S.testBit b = true → d (8 * a + b) ≤ 2304
theorem near_clr {d : Nat → Nat} {S a : Nat} (hS : S < 256) (ha : a < 8) (h : nearS d S) : nearS d (clr S a) := by
  intro x y hx hy h1 h2
  rw [clr_mem S hS a ha x hx] at h1
  rw [clr_mem S hS a ha y hy] at h2
  simp only [Bool.and_eq_true] at h1 h2
  exact h x y hx hy h1.1 h2.1
theorem pu_bd {F : Nat} {d : Nat → Nat} : ∀ (q e S : Nat), S < 256 → cdN S = 2 * q → q ≤ e → nearS d S → pu F d e S ≤ q * 2304 := by
  intro q
  induction q with
  | zero =>
    intro e S hS hc _ _
    have h0 := cd_0 S hS hc
    cases e with
    | zero => exact Nat.le_refl _
    | succ e =>
      unfold pu
      rw [if_pos h0]
      exact Nat.zero_le _
  | succ q ih =>
    intro e S hS hc he hn
    obtain ⟨e, rfl⟩ : ∃ k, e = k + 1 := ⟨e - 1, by omega⟩
    have h0 : S ≠ 0 := by
      intro q0
      subst q0
      have : cdN 0 = 0 := by decide
      omega
    obtain ⟨hf, hfm, _⟩ := ctz_ok S hS h0
    obtain ⟨_, h1⟩ := clr_less S hS _ hf hfm
    have hL := clr_lt S hS _ hf
    obtain ⟨c, hc8, hcm⟩ := cd_pos (clr S (ctzN S)) hL (by omega)
    obtain ⟨_, h2⟩ := clr_less _ hL c hc8 hcm
    have hcS : S.testBit c = true := by
      have := clr_mem S hS _ hf c hc8
      rw [hcm] at this
      exact (Bool.and_eq_true_iff.mp this.symm).1
    have h3 := pu_le (F := F) (d := d) (e := e) h0 hc8 hcm
    have h4 := ih e (clr (clr S (ctzN S)) c) (clr_lt _ hL c hc8) (by omega) (by omega) (near_clr hL hc8 (near_clr hS hf hn))
    have h5 := hn _ c hf hc8 hfm hcS
    omega
/-- any two taken out first cost no less -/
theorem pu_ex {F : Nat} {d : Nat → Nat} (hF : 10000 ≤ F) (hsym : ∀ a b, a < 8 → b < 8 → d (8 * a + b) = d (8 * b + a)) : ∀ (q e S : Nat), S < 256 → cdN S = 2 * (q + 1) → q ≤ e → q ≤ 3 → nearS d S →
    ∀ a b, a < 8 → b < 8 → a ≠ b → S.testBit a = true → S.testBit b = true → pu F d (e + 1) S ≤ d (8 * a + b) + pu F d e (clr (clr S a) b) := by
  intro q
  induction q with
  | zero =>
    intro e S hS hc he _ hn a b ha hb hab hma hmb
    have h0 : S ≠ 0 := by
      intro q0
      subst q0
      have : cdN 0 = 0 := by decide
      omega
    obtain ⟨hf, hfm, _⟩ := ctz_ok S hS h0
    have hm := clr_mem S hS _ hf
    by_cases qa : ctzN S = a
    · have h := pu_le (F := F) (d := d) (e := e) (c := b) h0 hb (by rw [hm b hb, hmb, qa]; simp [Ne.symm hab])
      rw [qa] at h
      exact h
    · by_cases qb : ctzN S = b
      · have h := pu_le (F := F) (d := d) (e := e) (c := a) h0 ha (by rw [hm a ha, hma, qb]; simp [hab])
        rw [qb, hsym b a hb ha, clr_comm S hS b hb a ha] at h
        exact h
      · exfalso
        have h1 := clr_less S hS a ha hma
        have hL := clr_lt S hS a ha
        have h2 := clr_less _ hL b hb (by rw [clr_mem S hS a ha b hb, hmb]; simp [Ne.symm hab])
        have h3 := clr_less _ (clr_lt _ hL b hb) (ctzN S) hf (by rw [clr_mem _ hL b hb _ hf, clr_mem S hS a ha _ hf, hfm]; simp [qa, qb])
        omega
  | succ q ih =>
    intro e S hS hc he hq3 hn a b ha hb hab hma hmb
    have h0 : S ≠ 0 := by
      intro q0
      subst q0
      have : cdN 0 = 0 := by decide
      omega
    obtain ⟨hf, hfm, hleast⟩ := ctz_ok S hS h0
    have hm := clr_mem S hS _ hf
    by_cases qa : ctzN S = a
    · have h := pu_le (F := F) (d := d) (e := e) (c := b) h0 hb (by rw [hm b hb, hmb, qa]; simp [Ne.symm hab])
      rw [qa] at h
      exact h
    · by_cases qb : ctzN S = b
      · have h := pu_le (F := F) (d := d) (e := e) (c := a) h0 ha (by rw [hm a ha, hma, qb]; simp [hab])
        rw [qb, hsym b a hb ha, clr_comm S hS b hb a ha] at h
        exact h
      · obtain ⟨e, rfl⟩ : ∃ k, e = k + 1 := ⟨e - 1, by omega⟩
        have hL := clr_lt S hS a ha
        have hL2 := clr_lt _ hL b hb
        have mb : (clr S a).testBit b = true := by rw [clr_mem S hS a ha b hb, hmb]; simp [Ne.symm hab]
        have h1 := (clr_less S hS a ha hma).2
        have h2 := (clr_less _ hL b hb mb).2
        have mf : (clr (clr S a) b).testBit (ctzN S) = true := by rw [clr_mem _ hL b hb _ hf, clr_mem S hS a ha _ hf, hfm]; simp [qa, qb]
        have h0' : clr (clr S a) b ≠ 0 := by
          intro q0
          rw [q0, Nat.zero_testBit] at mf
          exact absurd mf (by decide)
        obtain ⟨hf', hfm', hleast'⟩ := ctz_ok _ hL2 h0'
        have ef : ctzN (clr (clr S a) b) = ctzN S := by
          rcases Nat.lt_trichotomy (ctzN (clr (clr S a) b)) (ctzN S) with g | g | g
          · exfalso
            have g1 := hleast _ g
            rw [clr_mem _ hL b hb _ hf', clr_mem S hS a ha _ hf', g1] at hfm'
            exact absurd hfm' (by simp)
          · exact g
          · exfalso
            have g1 := hleast' _ g
            rw [mf] at g1
            exact absurd g1 (by decide)
        have hn' := near_clr hL hb (near_clr hS ha hn)
        have hbd := pu_bd (F := F) (q + 1) (e + 1) _ hL2 (by omega) (by omega) hn'
        rcases pu_at (F := F) (d := d) (e := e) h0' with h3 | ⟨c, hc8, hcm, h3⟩
        · exfalso
          omega
        · rw [ef] at hcm h3
          have hcm2 := hcm
          rw [clr_mem _ hL2 _ hf c hc8, clr_mem _ hL b hb c hc8, clr_mem S hS a ha c hc8] at hcm2
          simp only [Bool.and_eq_true, decide_eq_true_eq] at hcm2
          obtain ⟨⟨⟨mc, ca⟩, cb⟩, cf⟩ := hcm2
          have hLf := clr_lt S hS _ hf
          have mcf : (clr S (ctzN S)).testBit c = true := by rw [hm c hc8, mc]; simp [cf]
          have hLfc := clr_lt _ hLf c hc8
          have k1 := (clr_less S hS _ hf hfm).2
          have k2 := (clr_less _ hLf c hc8 mcf).2
          have h4 := pu_le (F := F) (d := d) (e := e + 1) h0 hc8 mcf
          have h5 := ih e (clr (clr S (ctzN S)) c) hLfc (by omega) (by omega) (by omega) (near_clr hLf hc8 (near_clr hS hf hn)) a b ha hb hab
            (by rw [clr_mem _ hLf c hc8 a ha, hm a ha, hma]; simp [Ne.symm ca, Ne.symm qa])
            (by rw [clr_mem _ hLf c hc8 b hb, hm b hb, hmb]; simp [Ne.symm cb, Ne.symm qb])
          have e1 : clr (clr (clr (clr S (ctzN S)) c) a) b = clr (clr (clr (clr S a) b) (ctzN S)) c := by
            rw [clr_comm _ hLf c hc8 a ha, clr_comm S hS _ hf a ha, clr_comm _ (clr_lt _ hL _ hf) c hc8 b hb, clr_comm _ hL _ hf b hb]
          rw [e1] at h5
          omega
/-! all twos, by sets -/
def dpB (G : Nat) (d T : Nat → Nat) (S a b x : Nat) : Nat := if S.testBit a = true ∧ S.testBit b = true ∧ d (8 * a + b) < G then min (T (clr (clr S a) b) + d (8 * a + b)) x else x
def dpS (G : Nat) (d T : Nat → Nat) (S : Nat) : Nat := rngF (fun a x => rngF (fun b x => dpB G d T S a b x) a 0 x) 8 0 (if S = 0 then 0 else G)
theorem dpB_le (G : Nat) (d T : Nat → Nat) (S a b x : Nat) : dpB G d T S a b x ≤ x := by
  unfold dpB
  split <;> omega
theorem dp_le {G : Nat} {d T : Nat → Nat} {S a b : Nat} (ha : a < 8) (hb : b < a) (h : S.testBit a = true ∧ S.testBit b = true ∧ d (8 * a + b) < G) : dpS G d T S ≤ T (clr (clr S a) b) + d (8 * a + b) := by
  unfold dpS
  refine mn_hit (j := a) (fun i x => mn_le (dpB_le G d T S i) _ _ _) (fun x => ?_) 8 0 _ (Nat.zero_le _) (by omega)
  refine mn_hit (j := b) (dpB_le G d T S a) (fun x => ?_) a 0 _ (Nat.zero_le _) (by omega)
  unfold dpB
  rw [if_pos h]
  exact Nat.min_le_left _ _
theorem dp_at {G : Nat} {d T : Nat → Nat} {S : Nat} : dpS G d T S = (if S = 0 then 0 else G) ∨ ∃ a b, a < 8 ∧ b < a ∧ (S.testBit a = true ∧ S.testBit b = true ∧ d (8 * a + b) < G) ∧ dpS G d T S = T (clr (clr S a) b) + d (8 * a + b) := by
  unfold dpS
  refine mn_at (V := fun v => ∃ a b, a < 8 ∧ b < a ∧ (S.testBit a = true ∧ S.testBit b = true ∧ d (8 * a + b) < G) ∧ v = T (clr (clr S a) b) + d (8 * a + b)) 8 0 _ ?_
  intro a x _ ha
  refine mn_at (V := fun v => ∃ a b, a < 8 ∧ b < a ∧ (S.testBit a = true ∧ S.testBit b = true ∧ d (8 * a + b) < G) ∧ v = T (clr (clr S a) b) + d (8 * a + b)) a 0 _ ?_
  intro b x _ hb
  by_cases q : S.testBit a = true ∧ S.testBit b = true ∧ d (8 * a + b) < G
  · by_cases q2 : x ≤ T (clr (clr S a) b) + d (8 * a + b)
    · left
      unfold dpB
      rw [if_pos q]
      omega
    · right
      refine ⟨a, b, by omega, by omega, q, ?_⟩
      unfold dpB
      rw [if_pos q]
      omega
  · left
    unfold dpB
    rw [if_neg q]
theorem dp_pu {F G : Nat} {d T : Nat → Nat} (hF : 10000 ≤ F) (hG : 10000 ≤ G) (hsym : ∀ a b, a < 8 → b < 8 → d (8 * a + b) = d (8 * b + a)) (hT : ∀ S, S < 256 → T S = dpS G d T S) :
    ∀ (q e S : Nat), S < 256 → cdN S = 2 * q → q ≤ e → q ≤ 4 → nearS d S → T S = pu F d e S := by
  intro q
  induction q with
  | zero =>
    intro e S hS hc _ _ _
    have h0 := cd_0 S hS hc
    subst h0
    have h1 : pu F d e 0 = 0 := by
      cases e with
      | zero => rfl
      | succ e => unfold pu; rw [if_pos rfl]
    rw [hT 0 hS, h1]
    rcases dp_at (G := G) (d := d) (T := T) (S := 0) with h | ⟨a, b, _, _, h, _⟩
    · rw [h, if_pos rfl]
    · rw [Nat.zero_testBit] at h
      exact absurd h.1 (by decide)
  | succ q ih =>
    intro e S hS hc he hq hn
    obtain ⟨e, rfl⟩ : ∃ k, e = k + 1 := ⟨e - 1, by omega⟩
    have h0 : S ≠ 0 := by
      intro q0
      subst q0
      have : cdN 0 = 0 := by decide
      omega
    have hbd := pu_bd (F := F) (q + 1) (e + 1) S hS hc he hn
    apply Nat.le_antisymm
    · obtain ⟨hf, hfm, hleast⟩ := ctz_ok S hS h0
      rcases pu_at (F := F) (d := d) (e := e) h0 with h3 | ⟨c, hc8, hcm, h3⟩
      · exfalso
        omega
      · have hLf := clr_lt S hS _ hf
        have hm := hcm
        rw [clr_mem S hS _ hf c hc8] at hm
        simp only [Bool.and_eq_true, decide_eq_true_eq] at hm
        have hfc : ctzN S < c := by
          rcases Nat.lt_trichotomy c (ctzN S) with g | g | g
          · have := hleast c g
            rw [hm.1] at this
            exact absurd this (by decide)
          · exact absurd g hm.2
          · exact g
        have k1 := (clr_less S hS _ hf hfm).2
        have k2 := (clr_less _ hLf c hc8 hcm).2
        have h5 := hn c (ctzN S) hc8 hf hm.1 hfm
        have h4 := dp_le (G := G) (d := d) (T := T) (S := S) hc8 hfc ⟨hm.1, hfm, by omega⟩
        rw [← hT S hS, clr_comm S hS c hc8 _ hf, ih e _ (clr_lt _ hLf c hc8) (by omega) (by omega) (by omega) (near_clr hLf hc8 (near_clr hS hf hn)), hsym c _ hc8 hf] at h4
        omega
    · rw [hT S hS]
      rcases dp_at (G := G) (d := d) (T := T) (S := S) with h | ⟨a, b, ha, hba, ⟨hma, hmb, _⟩, h⟩
      · rw [h, if_neg h0]
        omega
      · have hb : b < 8 := by omega
        have hL := clr_lt S hS a ha
        have mb : (clr S a).testBit b = true := by rw [clr_mem S hS a ha b hb, hmb]; simp; omega
        have k1 := (clr_less S hS a ha hma).2
        have k2 := (clr_less _ hL b hb mb).2
        rw [h, ih e _ (clr_lt _ hL b hb) (by omega) (by omega) (by omega) (near_clr hL hb (near_clr hS ha hn))]
        have h6 := pu_ex hF hsym q e S hS hc (by omega) (by omega) hn a b ha hb (by omega) hma hmb
        omega
