set_option maxRecDepth 100000
/-! directions to the left round from straight right on: an order -/
theorem kbf_irr (u v : Int) : ¬ kbf u v u v := by
  intro h
  rcases h with h | h
  · exact h.2 h.1
  · have : u * v - v * u = 0 := by rw [Int.mul_comm]; omega
    omega
theorem pos_of_mul {a b : Int} (ha : 0 < a) (h : 0 < a * b) : 0 < b := by
  rcases Int.lt_trichotomy b 0 with c | c | c
  · have := Int.mul_neg_of_pos_of_neg ha c; omega
  · subst c; simp at h
  · exact c
/-- within half a turn -/
theorem up_tr {ux uy vx vy wx wy : Int} (hu : kup ux uy) (hv : kup vx vy) (hw : kup wx wy) (h1 : 0 < ux * vy - uy * vx) (h2 : 0 < vx * wy - vy * wx) : 0 < ux * wy - uy * wx := by
  unfold kup at hu hv hw
  have hvy : 0 < vy := by
    rcases hv with h | ⟨h, h'⟩
    · exact h
    · subst h
      rcases hu with g | ⟨g, _⟩
      · have := Int.mul_pos g h'; simp at h1; omega
      · subst g; simp at h1
  have id : vy * (ux * wy - uy * wx) = wy * (ux * vy - uy * vx) + uy * (vx * wy - vy * wx) := by grind
  refine pos_of_mul hvy ?_
  rw [id]
  have huy : 0 ≤ uy := by rcases hu with h | h <;> omega
  have a2 := Int.mul_nonneg huy (Int.le_of_lt h2)
  rcases hw with h | ⟨h, h'⟩
  · have := Int.mul_pos h h1; omega
  · subst h
    have := Int.mul_pos hvy h'
    simp at h2
    omega
theorem kbf_tot {ux uy vx vy : Int} (h : ¬ (ux * vy - uy * vx = 0 ∧ (kup ux uy ↔ kup vx vy))) : kbf ux uy vx vy ∨ kbf vx vy ux uy := by
  unfold kbf
  have e : vx * uy - vy * ux = -(ux * vy - uy * vx) := by grind
  by_cases a : kup ux uy <;> by_cases b : kup vx vy
  · have hi : kup ux uy ↔ kup vx vy := ⟨fun _ => b, fun _ => a⟩
    have hn : ux * vy - uy * vx ≠ 0 := fun q => h ⟨q, hi⟩
    by_cases c : 0 < ux * vy - uy * vx
    · exact Or.inl (Or.inr ⟨hi, c⟩)
    · exact Or.inr (Or.inr ⟨hi.symm, by rw [e]; omega⟩)
  · exact Or.inl (Or.inl ⟨a, b⟩)
  · exact Or.inr (Or.inl ⟨b, a⟩)
  · have hi : kup ux uy ↔ kup vx vy := ⟨fun q => absurd q a, fun q => absurd q b⟩
    have hn : ux * vy - uy * vx ≠ 0 := fun q => h ⟨q, hi⟩
    by_cases c : 0 < ux * vy - uy * vx
    · exact Or.inl (Or.inr ⟨hi, c⟩)
    · exact Or.inr (Or.inr ⟨hi.symm, by rw [e]; omega⟩)
theorem kup_neg {x y : Int} (h : ¬ (x = 0 ∧ y = 0)) : kup (-x) (-y) ↔ ¬ kup x y := by unfold kup; omega
theorem kbf_tr {ux uy vx vy wx wy : Int} (nu : ¬ (ux = 0 ∧ uy = 0)) (nv : ¬ (vx = 0 ∧ vy = 0)) (nw : ¬ (wx = 0 ∧ wy = 0)) (h1 : kbf ux uy vx vy) (h2 : kbf vx vy wx wy) : kbf ux uy wx wy := by
  unfold kbf at *
  rcases h1 with ⟨a, b⟩ | ⟨a, b⟩
  · rcases h2 with ⟨c, d⟩ | ⟨c, d⟩
    · exact absurd c b
    · exact Or.inl ⟨a, fun q => b (c.mpr q)⟩
  · rcases h2 with ⟨c, d⟩ | ⟨c, d⟩
    · exact Or.inl ⟨a.mpr c, d⟩
    · refine Or.inr ⟨a.trans c, ?_⟩
      by_cases u : kup ux uy
      · exact up_tr u (a.mp u) (c.mp (a.mp u)) b d
      · have u' := (kup_neg nu).mpr u
        have v' := (kup_neg nv).mpr (fun q => u (a.mpr q))
        have w' := (kup_neg nw).mpr (fun q => u (a.mpr (c.mpr q)))
        have := up_tr u' v' w' (by grind) (by grind)
        grind
