theorem KW_VC {C : AC} {m m1 : MS} {fo F} (h : KW m m1) (hC : VC (CW C fo F none) m) : VC (CW C fo F none) m1 := by
  obtain ⟨a1, a2, a3, a4⟩ := h
  obtain ⟨⟨h1, h6⟩, h2, h3, h4, h5, hq, h7⟩ := hC
  refine ⟨⟨by rw [a2 3 (by omega)]; exact h1, h6⟩, fun a b ha hb => by rw [a2 _ (by omega)]; exact h2 a b ha hb, fun h hh => by rw [a2 _ (by omega)]; exact h3 h hh, by rw [a2 2 (by omega)]; exact h4, ?_, ?_, h7⟩
  · rw [a4 22 (by omega) (by omega) (by omega) (by omega) (by omega)]
    cases fo with
    | none => exact h5
    | some r =>
      obtain ⟨r', hr, h5, h6'⟩ := h5
      exact ⟨r', hr, h5, RuM_fr h6' fun j hj => a3 j (by omega)⟩
  · show m1.1 25 < 0
    rw [a4 25 (by omega) (by omega) (by omega) (by omega) (by omega)]
    exact hq
theorem VA_wet {C : AC} {A : AA} {m0 m : MS} {fo F} (h : KW m0 m) (e : ∀ i, i ≠ 1 → m.2.1 10 i = m0.2.1 10 i) (hA : VA (CW C fo F none) A m0) (v : Int32) : VA (CW C fo F none) (wetA A v) (mA m 10 1 v) := by
  obtain ⟨a1, ⟨a13, a10, aw⟩, a11, a12, ag, -⟩ := hA
  have e2 : ∀ i, i ≠ 1 → (mA m 10 1 v).2.1 10 i = m0.2.1 10 i := fun i hi => by rw [mA_n _ _ _ _ hi, e i hi]
  have t0 : (wetA A v).2.1 0 = A.2.1 0 := by simp [wetA, va_up]
  have t1 : (wetA A v).2.1 1 = A.2.1 1 := by simp [wetA, va_up]
  have t2 : (wetA A v).2.1 2 = v := by simp [wetA, va_up]
  have t3 : (wetA A v).2.1 3 = A.2.1 3 := by simp [wetA, va_up]
  refine ⟨fun h hh => ?_, ⟨?_, ?_, ?_⟩, ?_, fun hx => ?_, ?_, fun h => nomatch h⟩
  · rw [e2 _ (by omega), e2 _ (by omega), e2 _ (by omega), e2 _ (by omega)]; exact a1 h hh
  · rw [t0, e2 _ (by omega)]; exact a13
  · rw [t1, e2 _ (by omega)]; exact a10
  · rw [t2, mA_s]
  · rw [e2 _ (by omega)]; exact a11
  · rw [t0] at hx
    rw [e2 _ (by omega)]; exact a12 hx
  · rw [t3, ← ag, mA_1, h.2.2.2 27 (by omega) (by omega) (by omega) (by omega) (by omega)]
    congr 1
    exact sumI_c fun i _ => by rw [e2 _ (by omega), e2 _ (by omega)]
