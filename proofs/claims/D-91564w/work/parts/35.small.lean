set_option maxRecDepth 100000
/-! ===== small words of both sides ===== -/
theorem i32_lt {a b : Int32} : a < b ↔ a.toInt < b.toInt := Int32.lt_iff_toInt_lt
theorem i64_lt {a b : Int64} : a < b ↔ a.toInt < b.toInt := Int64.lt_iff_toInt_lt
theorem lgc_lt {a b : Int64} : lg_cmp a b < 0 ↔ a.toInt < b.toInt := (lg_cmp_lt a b).trans i64_lt
theorem lgc_gt {a b : Int64} : 0 < lg_cmp a b ↔ b.toInt < a.toInt := (lg_cmp_gt a b).trans i64_lt
theorem X3_in (a b c : Int64) (u : zM) : f_X3_in a b c u = some (if b.toInt ≤ a.toInt ∧ a.toInt ≤ c.toInt then 1 else 0, u) := by
  unfold f_X3_in gb
  simp only [lgc_lt, lgc_gt]
  by_cases h1 : a.toInt < b.toInt
  · have h3 : ¬ (b.toInt ≤ a.toInt ∧ a.toInt ≤ c.toInt) := fun q => by omega
    rw [if_pos h1, if_pos (by simp), if_neg h3]
  · by_cases h2 : c.toInt < a.toInt
    · have h3 : ¬ (b.toInt ≤ a.toInt ∧ a.toInt ≤ c.toInt) := fun q => by omega
      rw [if_neg h1, if_pos h2, if_pos (by simp), if_neg h3]
    · have h3 : b.toInt ≤ a.toInt ∧ a.toInt ≤ c.toInt := by omega
      rw [if_neg h1, if_neg h2, if_pos (by simp), if_pos h3]
theorem X0_in (a b c : Int32) (u : zM) : f_X0_in a b c u = some (if b.toInt ≤ a.toInt ∧ a.toInt ≤ c.toInt then 1 else 0, u) := by
  unfold f_X0_in gb
  simp only [i32_lt]
  by_cases h1 : a.toInt < b.toInt
  · have h3 : ¬ (b.toInt ≤ a.toInt ∧ a.toInt ≤ c.toInt) := fun q => by omega
    rw [if_pos h1, if_pos (by simp), if_neg h3]
  · by_cases h2 : c.toInt < a.toInt
    · have h3 : ¬ (b.toInt ≤ a.toInt ∧ a.toInt ≤ c.toInt) := fun q => by omega
      rw [if_neg h1, if_pos h2, if_pos (by simp), if_neg h3]
    · have h3 : b.toInt ≤ a.toInt ∧ a.toInt ≤ c.toInt := by omega
      rw [if_neg h1, if_neg h2, if_pos (by simp), if_pos h3]
