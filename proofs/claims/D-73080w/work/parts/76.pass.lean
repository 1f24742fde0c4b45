/-! PLAIN LAND, 26: an hour passes, both sides -/
theorem upd_ne {g : Nat → Int32} {i j : Nat} {v : Int32} (h : j ≠ i) : upd g i v j = g j := if_neg h
theorem upd_hit (g : Nat → Int32) (i : Nat) (v : Int32) : upd g i v i = v := if_pos rfl
theorem na_ne {g : Nat → Int32} {i j : Nat} {v : Int32} (h : j ≠ i) : na (upd g i v) j = na g j := by unfold na; rw [upd_ne h]
theorem na_hit (g : Nat → Int32) (i : Nat) {v : Nat} (h : v < 2147483648) : na (upd g i (ii v)) i = v := by unfold na; rw [upd_hit, ii_nat h]
section
variable {g : Nat → Int32} {n k H : Nat}
theorem rOK_at (h : rOK g n k H) {c a : Nat} (hc : c < k) (ha : a < 8) : rOK (upd g (18 + c) (ii a)) n k H := by
  obtain ⟨⟨h1, h2, h3, h4⟩, h5, h6, h7, h8, h9, h10, h11, h12, h13, h14, h15, h16, h17, h18, h19, h20⟩ := h
  refine ⟨⟨?_, h2, ?_, h4⟩, ?_, ?_, ?_, ?_, fun l hl => ?_, fun l hl => ?_, fun l hl => ?_, fun l hl => ?_, fun l hl => ?_, fun l hl => ?_, fun c' hc' => ?_, fun c' hc' => ?_, fun c' hc' => ?_, fun i hi => ?_, ?_, ?_⟩
  · rw [upd_ne (by omega)]; exact h1
  · rw [upd_ne (by omega)]; exact h3
  · rw [upd_ne (by omega), na_ne (by omega)]; exact h5
  · rw [upd_ne (by omega), na_ne (by omega)]; exact h6
  · rw [upd_ne (by omega), na_ne (by omega)]; exact h7
  · rw [upd_ne (by omega), na_ne (by omega)]; exact h8
  · rw [upd_ne (by omega), na_ne (by omega)]; exact h9 l hl
  · rw [upd_ne (by omega), na_ne (by omega)]; exact h10 l hl
  · rw [na_ne (by omega), na_ne (by omega)]; exact h11 l hl
  · rw [upd_ne (by omega), na_ne (by omega)]; exact h12 l hl
  · rw [upd_ne (by omega), na_ne (by omega)]; exact h13 l hl
  · rw [upd_ne (by omega), na_ne (by omega)]; exact h14 l hl
  · by_cases q : c' = c
    · subst q
      rw [upd_hit, na_hit _ _ (by omega)]
      exact ⟨rfl, ha⟩
    · rw [upd_ne (by omega), na_ne (by omega)]; exact h15 c' hc'
  · rw [upd_ne (by omega), na_ne (by omega)]; exact h16 c' hc'
  · rw [upd_ne (by omega), na_ne (by omega)]; exact h17 c' hc'
  · rw [na_ne (by omega)] at hi
    rw [upd_ne (by omega), na_ne (by omega)]; exact h18 i hi
  · rw [upd_ne (by omega), na_ne (by omega)]; exact h19
  · rw [upd_ne (by omega), na_ne (by omega), na_ne (by omega)]; exact h20
theorem rOK_last (h : rOK g n k H) {c l : Nat} (hc : c < k) (hl : l < n) : rOK (upd g (22 + c) (ii l)) n k H := by
  obtain ⟨⟨h1, h2, h3, h4⟩, h5, h6, h7, h8, h9, h10, h11, h12, h13, h14, h15, h16, h17, h18, h19, h20⟩ := h
  refine ⟨⟨?_, h2, ?_, h4⟩, ?_, ?_, ?_, ?_, fun l hl => ?_, fun l hl => ?_, fun l hl => ?_, fun l hl => ?_, fun l hl => ?_, fun l hl => ?_, fun c' hc' => ?_, fun c' hc' => ?_, fun c' hc' => ?_, fun i hi => ?_, ?_, ?_⟩
  · rw [upd_ne (by omega)]; exact h1
  · rw [upd_ne (by omega)]; exact h3
  · rw [upd_ne (by omega), na_ne (by omega)]; exact h5
  · rw [upd_ne (by omega), na_ne (by omega)]; exact h6
  · rw [upd_ne (by omega), na_ne (by omega)]; exact h7
  · rw [upd_ne (by omega), na_ne (by omega)]; exact h8
  · rw [upd_ne (by omega), na_ne (by omega)]; exact h9 l hl
  · rw [upd_ne (by omega), na_ne (by omega)]; exact h10 l hl
  · rw [na_ne (by omega), na_ne (by omega)]; exact h11 l hl
  · rw [upd_ne (by omega), na_ne (by omega)]; exact h12 l hl
  · rw [upd_ne (by omega), na_ne (by omega)]; exact h13 l hl
  · rw [upd_ne (by omega), na_ne (by omega)]; exact h14 l hl
  · rw [upd_ne (by omega), na_ne (by omega)]; exact h15 c' hc'
  · by_cases q : c' = c
    · subst q
      rw [upd_hit, na_hit _ _ (by omega)]
      exact Or.inr ⟨rfl, by omega⟩
    · rw [upd_ne (by omega), na_ne (by omega)]; exact h16 c' hc'
  · rw [upd_ne (by omega), na_ne (by omega)]; exact h17 c' hc'
  · rw [na_ne (by omega)] at hi
    rw [upd_ne (by omega), na_ne (by omega)]; exact h18 i hi
  · rw [upd_ne (by omega), na_ne (by omega)]; exact h19
  · rw [upd_ne (by omega), na_ne (by omega), na_ne (by omega)]; exact h20
theorem rOK_name (h : rOK g n k H) {l q : Nat} (hl : l < n) (hq : q < 20) : rOK (upd g (8 + l) (ii q)) n k H := by
  obtain ⟨⟨h1, h2, h3, h4⟩, h5, h6, h7, h8, h9, h10, h11, h12, h13, h14, h15, h16, h17, h18, h19, h20⟩ := h
  refine ⟨⟨?_, h2, ?_, h4⟩, ?_, ?_, ?_, ?_, fun l hl => ?_, fun l hl => ?_, fun l hl => ?_, fun l hl => ?_, fun l hl => ?_, fun l' hl' => ?_, fun c' hc' => ?_, fun c' hc' => ?_, fun c' hc' => ?_, fun i hi => ?_, ?_, ?_⟩
  · rw [upd_ne (by omega)]; exact h1
  · rw [upd_ne (by omega)]; exact h3
  · rw [upd_ne (by omega), na_ne (by omega)]; exact h5
  · rw [upd_ne (by omega), na_ne (by omega)]; exact h6
  · rw [upd_ne (by omega), na_ne (by omega)]; exact h7
  · rw [upd_ne (by omega), na_ne (by omega)]; exact h8
  · rw [upd_ne (by omega), na_ne (by omega)]; exact h9 l hl
  · rw [upd_ne (by omega), na_ne (by omega)]; exact h10 l hl
  · rw [na_ne (by omega), na_ne (by omega)]; exact h11 l hl
  · rw [upd_ne (by omega), na_ne (by omega)]; exact h12 l hl
  · rw [upd_ne (by omega), na_ne (by omega)]; exact h13 l hl
  · by_cases q : l' = l
    · subst q
      rw [upd_hit, na_hit _ _ (by omega)]
      exact Or.inr ⟨rfl, by omega⟩
    · rw [upd_ne (by omega), na_ne (by omega)]; exact h14 l' hl'
  · rw [upd_ne (by omega), na_ne (by omega)]; exact h15 c' hc'
  · rw [upd_ne (by omega), na_ne (by omega)]; exact h16 c' hc'
  · rw [upd_ne (by omega), na_ne (by omega)]; exact h17 c' hc'
  · rw [na_ne (by omega)] at hi
    rw [upd_ne (by omega), na_ne (by omega)]; exact h18 i hi
  · rw [upd_ne (by omega), na_ne (by omega)]; exact h19
  · rw [upd_ne (by omega), na_ne (by omega), na_ne (by omega)]; exact h20
theorem rOK_hour (h : rOK g n k H) {t H' : Nat} (ht : t ≤ H') (hH : H' < 100000) : rOK (upd g 5 (ii t)) n k H' := by
  obtain ⟨⟨h1, h2, h3, h4⟩, h5, h6, h7, h8, h9, h10, h11, h12, h13, h14, h15, h16, h17, h18, h19, h20⟩ := h
  refine ⟨⟨?_, h2, ?_, h4⟩, ?_, ?_, ?_, ?_, fun l hl => ?_, fun l hl => ?_, fun l hl => ?_, fun l hl => ?_, fun l hl => ?_, fun l' hl' => ?_, fun c' hc' => ?_, fun c' hc' => ?_, fun c' hc' => ?_, fun i hi => ?_, ?_, ?_⟩
  · rw [upd_ne (by omega)]; exact h1
  · rw [upd_ne (by omega)]; exact h3
  · rw [upd_ne (by omega), na_ne (by omega)]; exact h5
  · rw [upd_hit, na_hit _ _ (by omega)]; exact ⟨rfl, ht⟩
  · rw [upd_ne (by omega), na_ne (by omega)]; exact h7
  · rw [upd_ne (by omega), na_ne (by omega)]; exact h8
  · rw [upd_ne (by omega), na_ne (by omega)]; exact h9 l hl
  · rw [upd_ne (by omega), na_ne (by omega)]; exact h10 l hl
  · rw [na_ne (by omega), na_ne (by omega)]; exact h11 l hl
  · rw [upd_ne (by omega), na_ne (by omega)]; exact h12 l hl
  · rw [upd_ne (by omega), na_ne (by omega)]; exact h13 l hl
  · rw [upd_ne (by omega), na_ne (by omega)]; exact h14 l' hl'
  · rw [upd_ne (by omega), na_ne (by omega)]; exact h15 c' hc'
  · rw [upd_ne (by omega), na_ne (by omega)]; exact h16 c' hc'
  · rw [upd_ne (by omega), na_ne (by omega)]; exact h17 c' hc'
  · rw [na_ne (by omega)] at hi
    rw [upd_ne (by omega), na_ne (by omega)]; exact h18 i hi
  · rw [upd_ne (by omega), na_ne (by omega)]; exact h19
  · rw [upd_ne (by omega), na_ne (by omega), na_ne (by omega)]; exact h20
end
/-- a child goes along a lane; all do -/
def acrG (g : Nat → Int32) (ch l : Nat) : Int32 := if g (26 + l) = g (18 + ch) then g (36 + l) else g (26 + l)
def goG (ch l : Nat) (g : Nat → Int32) : Nat → Int32 := upd (upd g (18 + ch) (acrG g ch l)) (22 + ch) (ii l)
def goS (gn : Nat → Int32) (ch : Nat) (p : Nat × (Nat → Int32)) : Nat × (Nat → Int32) := if gn ch = -1 then p else (p.1 + 1, goG ch (gn ch).toNatClampNeg p.2)
def goA (D : Laws) (g : Nat → Int32) (n k : Nat) : Nat × (Nat → Int32) := rngF (goS (laneG D g n)) k 0 (0, g)
def passG (D : Laws) (n k : Nat) (g : Nat → Int32) : Nat → Int32 := upd (goA D g n k).2 5 ((goA D g n k).2 5 + ii 1)
theorem rOK_go {g : Nat → Int32} {n k H : Nat} (h : rOK g n k H) {ch l : Nat} (hc : ch < k) (hl : l < n) : rOK (goG ch l g) n k H := by
  unfold goG
  refine rOK_last ?_ hc hl
  have h1 := h.2.2.2.2.2.1 l hl
  have h2 := h.2.2.2.2.2.2.1 l hl
  unfold acrG
  split
  · rw [h2.1]; exact rOK_at h hc h2.2
  · rw [h1.1]; exact rOK_at h hc h1.2
theorem goA_ok {D : Laws} {g : Nat → Int32} {n k H : Nat} (h : rOK g n k H) : ∀ d, d ≤ k → rOK (rngF (goS (laneG D g n)) d 0 (0, g)).2 n k H ∧ ∀ i, (i < 18 ∨ 26 ≤ i) → (rngF (goS (laneG D g n)) d 0 (0, g)).2 i = g i := by
  intro d
  induction d with
  | zero => intro _; exact ⟨h, fun _ _ => rfl⟩
  | succ d ih =>
    intro hd
    obtain ⟨h1, h2⟩ := ih (by omega)
    have hk := h.1.2.2.2
    have hn := h.1.2.1
    rw [rngF_s]
    unfold goS
    rcases lane_ok D g n d with e | ⟨j, hj, _, e⟩
    · rw [if_pos e]; exact ⟨h1, h2⟩
    · rw [e, if_neg (ii_m1 (by omega)), ii_nat (by omega)]
      refine ⟨rOK_go h1 (by omega) hj, fun i hi => ?_⟩
      show goG d j _ i = g i
      unfold goG
      rw [upd_ne (by omega), upd_ne (by omega)]
      exact h2 i hi
theorem pass_ok {D : Laws} {g : Nat → Int32} {n k H : Nat} (h : rOK g n k H) (hH : H < 2000) : rOK (passG D n k g) n k (H + 1) := by
  obtain ⟨h1, h2⟩ := goA_ok (D := D) h k (Nat.le_refl _)
  have h5 := h1.2.2.1
  have e : passG D n k g = upd (goA D g n k).2 5 (ii (na (goA D g n k).2 5 + 1)) := by
    unfold passG
    congr 1
    have : (goA D g n k).2 5 = ii (na (goA D g n k).2 5) := h5.1
    rw [← ii_add, ← this]
  rw [e]
  exact rOK_hour h1 (by have : na (goA D g n k).2 5 ≤ H := h5.2; omega) (by omega)
