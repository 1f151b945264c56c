/-- m is m0 but the state's cells and water; kept is m0's state -/
def KW (m0 m : MS) : Prop := (∀ k, k < 28 → m.2.1 13 k = m0.2.1 10 (10 + k)) ∧ (∀ i, i = 0 ∨ (2 ≤ i ∧ i < 10) ∨ 38 ≤ i → m.2.1 10 i = m0.2.1 10 i) ∧ (∀ j, j = 1 ∨ j = 2 ∨ j = 4 ∨ j = 5 ∨ j = 12 ∨ j = 18 ∨ j = 19 ∨ j = 20 ∨ j = 21 → m.2.1 j = m0.2.1 j) ∧ ∀ k, k ≠ 19 → k ≠ 26 → k ≠ 28 → k ≠ 29 → k ≠ 34 → m.1 k = m0.1 k
theorem KW_fr {m m1 m2 : MS} (h : KW m m1) (f : Fr m1 m2) : KW m m2 := by
  obtain ⟨a1, a2, a3, a4⟩ := h
  obtain ⟨b1, b2, b3, b4⟩ := f
  exact ⟨fun k hk => by rw [b1 13 (by omega)]; exact a1 k hk, fun i hi => by rw [b2 i (by omega)]; exact a2 i hi, fun j hj => by rw [b1 j (by omega)]; exact a3 j hj, fun k p q r s t => by rw [b3 k p q r s]; exact a4 k p q r s t⟩
theorem KW_set {m m1 : MS} (h : KW m m1) (v : Int32) : KW m (mA m1 10 1 v) := by
  obtain ⟨a1, a2, a3, a4⟩ := h
  refine ⟨fun k hk => ?_, fun i hi => by rw [mA_n _ _ _ _ (by omega)]; exact a2 i hi, fun j hj => ?_, fun k p q r s t => by rw [mA_1]; exact a4 k p q r s t⟩
  · rw [show (mA m1 10 1 v).2.1 13 = m1.2.1 13 by simp [mA, va_up]]; exact a1 k hk
  · rw [show (mA m1 10 1 v).2.1 j = m1.2.1 j from va_up_ne _ _ (by omega)]; exact a3 j hj
theorem KW_back {m m2 m3 : MS} (h : KW m m2) (c : CpM 10 10 28 (fun k => m2.2.1 13 k) m2 m3) : KW m m3 ∧ ∀ i, i ≠ 1 → m3.2.1 10 i = m.2.1 10 i := by
  obtain ⟨a1, a2, a3, a4⟩ := h
  obtain ⟨c1, c2, c3, c4, c5⟩ := c
  have e : ∀ i, i ≠ 1 → m3.2.1 10 i = m.2.1 10 i := by
    intro i hi1
    by_cases hi : 10 ≤ i ∧ i < 38
    · have h4 : m3.2.1 10 (10 + (i - 10)) = m2.2.1 13 (i - 10) := c1 (i - 10) (by omega)
      rw [show 10 + (i - 10) = i by omega] at h4
      have h5 := a1 (i - 10) (by omega)
      rw [show 10 + (i - 10) = i by omega] at h5
      rw [h4, h5]
    · rw [c2 i (by omega), a2 i (by omega)]
  exact ⟨⟨fun k hk => by rw [c3 13 (by omega)]; exact a1 k hk, fun i hi => e i (by omega), fun j hj => by rw [c3 j (by omega)]; exact a3 j hj, fun k p q r s t => by rw [c4]; exact a4 k p q r s t⟩, e⟩
