set_option maxRecDepth 100000
/-- the overlap of two ways on a line against their common ends: numbers alone -/
theorem ov_num {a b c d lo hi lo2 hi2 fr to : Int} {B1 B2 B3 B4 : Prop} (h : (a < b ∧ lo = a ∧ hi = b) ∨ (b < a ∧ lo = b ∧ hi = a)) (k : (c < d ∧ lo2 = c ∧ hi2 = d) ∨ (d < c ∧ lo2 = d ∧ hi2 = c)) (hf : (fr = lo ∧ lo2 ≤ lo) ∨ (fr = lo2 ∧ lo ≤ lo2)) (ht : (to = hi ∧ hi ≤ hi2) ∨ (to = hi2 ∧ hi2 ≤ hi))
    (h1 : B1 ↔ ((a ≤ c ∧ c ≤ b) ∨ (b ≤ c ∧ c ≤ a))) (h2 : B2 ↔ ((a ≤ d ∧ d ≤ b) ∨ (b ≤ d ∧ d ≤ a))) (h3 : B3 ↔ (((c ≤ a ∧ a ≤ d) ∨ (d ≤ a ∧ a ≤ c)) ∧ ¬ a = c ∧ ¬ a = d)) (h4 : B4 ↔ (((c ≤ b ∧ b ≤ d) ∨ (d ≤ b ∧ b ≤ c)) ∧ ¬ b = c ∧ ¬ b = d)) :
    (fr < to ↔ ((B1 ∧ B2) ∨ (B1 ∧ B3) ∨ (B1 ∧ B4) ∨ (B2 ∧ B3) ∨ (B2 ∧ B4) ∨ (B3 ∧ B4))) ∧ (¬ fr < to → (to = fr ↔ (B1 ∨ B2 ∨ B3 ∨ B4))) := by
  rcases h with ⟨h, rfl, rfl⟩ | ⟨h, rfl, rfl⟩ <;> rcases k with ⟨k, rfl, rfl⟩ | ⟨k, rfl, rfl⟩ <;> rcases hf with ⟨rfl, hf⟩ | ⟨rfl, hf⟩ <;> rcases ht with ⟨rfl, ht⟩ | ⟨rfl, ht⟩ <;>
    by_cases g1 : B1 <;> by_cases g2 : B2 <;> by_cases g3 : B3 <;> by_cases g4 : B4 <;> simp only [g1, g2, g3, g4, true_iff, false_iff, and_true, and_false, or_true, or_false, true_or, false_or, and_self, or_self, iff_true, iff_false] at h1 h2 h3 h4 ⊢ <;> omega
