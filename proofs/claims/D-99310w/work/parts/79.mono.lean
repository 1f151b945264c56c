theorem hour_w (C : AC) (A : AA) (h : Nat) : (hourA C A).1 0 h = (comeA (goA C A)).1.1 0 h - mnA (comeA (goA C A)).1 h := rfl
/-- worth in hours to come: in its bounds, and none without worth now -/
theorem it_w {C : AC} : ∀ (n : Nat) {A : AA}, WA C A → (∀ h, h < C.1 → 0 ≤ A.1 0 h ∧ A.1 0 h ≤ 99) → ∀ h, h < C.1 → (0 ≤ (itA C n A).1 0 h ∧ (itA C n A).1 0 h ≤ 99) ∧ (0 < (itA C n A).1 0 h → 0 < A.1 0 h)
  | 0, A, _, hB, h, hh => ⟨hB h hh, id⟩
  | n + 1, A, hW, hB, h, hh => by
    obtain ⟨h1, h2⟩ := it_w n (WA_hour hW) (WB_hour hW hB) h hh
    refine ⟨h1, fun h3 => ?_⟩
    have h4 := h2 h3
    by_cases c : 0 < A.1 0 h
    · exact c
    · exfalso
      have hz : A.1 0 h = 0 := by rw [i_ne0 (hB h hh).1]; exact c
      have hw := WA_come (WA_go hW)
      have e : (comeA (goA C A)).1.1 0 h = 0 := by rw [come_w, go_arr, hz]
      have hm : mnA (comeA (goA C A)).1 h = 0 := by
        unfold mnA
        rw [e, if_neg (Int32.not_lt.mpr (hw.1 h hh).1)]
      rw [hour_w, e, hm] at h4
      exact absurd h4 (by decide)
