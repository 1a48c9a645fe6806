/-! neighbours, by number -/
set_option maxRecDepth 100000
theorem nex_adj : ∀ a, a < 60 → ∀ b, b < 60 → nxtB (nI a) (nI b) = (decide (nexN a 0 = nI b) || decide (nexN a 1 = nI b) || decide (nexN a 2 = nI b) || decide (nexN a 3 = nI b)) := by decide +kernel
theorem nex_rng : ∀ a, a < 60 → ∀ way, way < 4 → nexN a way = -1 ∨ ((nexN a way).toNatClampNeg < 60 ∧ nexN a way = nI (nexN a way).toNatClampNeg ∧ (nexN a way).toNatClampNeg ≠ a) := by decide +kernel
