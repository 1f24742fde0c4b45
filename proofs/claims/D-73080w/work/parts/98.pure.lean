theorem pure_law {Ln : Nat} {xs : Nat → Int32} (hL : Ln ≤ 384) : ∀ (U : Nat → Option Nat) (T N : xT) (Z : Nat) (I : xI) (L : xL) (R : xR), StartOK U T N Z I L R → ∃ To No Zo So Io Lo Ro, fL_law 6000 xs Ln U T N Z 0 I L R = some (1, To, No, Zo, So, Io, Lo, Ro) ∧ Zo ≤ Z + 1200128 ∧ So ≤ 5501098 := by
  sorry
