theorem law_one (L : Nat) (xs : Nat → Int32) (hL : L ≤ 384) : ∃ u', f_L_law (zU0 L xs) = some (1, u') ∧ mC u' ≤ 601024 ∧ mS u' ≤ 7293034 := by
  sorry
