/-! trials that end in worth -/
theorem mA_o (m : MS) (j i : Nat) (v : Int32) (q : Nat) (h : q ≠ j) : (mA m j i v).2.1 q = m.2.1 q := va_up_ne _ _ h
theorem CW_1 {C : AC} {fo F q} : (CW C fo F q).1 = C.1 := rfl
theorem M_worthIn (k : Nat) (d : AH) (x : XS) (C : AC) (n : Nat) (hn : n < 1000) (A : AA) (m0 m : MS) (hW : WA C A) (hC : VC C m) (hA : VA C A m) (h13 : ∀ c, c < 28 → m.2.1 13 c = m0.2.1 10 (10 + c)) (h10 : ∀ i, i < 10 ∨ 38 ≤ i → m.2.1 10 i = m0.2.1 10 i) : ∃ m', callR (k + 9) n_X4_worthIn [.ref 153, .int (nI n)] (P d x m) = some (.inl (some (.int (sumI ((itA C n A).1 0) C.1))), P d x m') ∧ m'.2.1 10 = m0.2.1 10 ∧ (∀ j, j ≠ 10 → m'.2.1 j = m.2.1 j) ∧ (∀ q, q ≠ 19 → q ≠ 26 → q ≠ 28 → q ≠ 29 → m'.1 q = m.1 q) := by
  obtain ⟨m1, g1, f1, w1⟩ := M_passesAll k d x C n hn A m hW hC hA
  have hC1 := VC_fr hC f1
  have g2 := M_worthAll (k + 6) d x m1 C.1 hC1.1.2 hC1.1.1
  have hs : sumI (fun h => m1.2.1 10 (14 + 4 * h)) C.1 = sumI ((itA C n A).1 0) C.1 := sumI_c fun i hi => (w1.1 i hi).1
  rw [hs] at g2
  obtain ⟨m2, g3, c1, c2, c3, c4, c5⟩ := M_laysBack (k + 7) d x m1
  obtain ⟨b1, b2, b3, b4⟩ := f1
  refine ⟨m2, ?_, ?_, fun j hj => by rw [c3 j hj, b1 j hj], fun q a b c e => by rw [c4, b3 q a b c e]⟩
  · simp (disch := omega) only [e_X4_worthIn_0, c_X4_worthIn, cond_true, cond_false, Option.bind_some, rI_s, rL_s, rR_s, rV_s, cnd_d, cnd_ne, cnd_eq, bI_d0, bI_t0, ite_not, decide_eq_false_iff_not, decide_eq_true_eq, lg_cmp_ge, lg_cmp_le, lg_cmp_gt, lg_cmp_lt, lg_cmp_eq, okb_1, okb_0, okb_b, eq_self, if_true, if_false, Bool.true_eq_false, Bool.false_eq_true, isO_M, g1, g2, g3]
  · funext i
    by_cases hi : 10 ≤ i ∧ i < 38
    · have h4 : m2.2.1 10 (10 + (i - 10)) = m1.2.1 13 (i - 10) := c1 (i - 10) (by omega)
      rw [show 10 + (i - 10) = i by omega] at h4
      have h5 := h13 (i - 10) (by omega)
      rw [show 10 + (i - 10) = i by omega] at h5
      rw [h4, b1 13 (by omega), h5]
    · rw [c2 i (by omega), b2 i (by omega), h10 i (by omega)]
theorem KM_wi {m0 m m' : MS} (hk : KM m0 m) (e10 : m'.2.1 10 = m0.2.1 10) (ej : ∀ j, j ≠ 10 → m'.2.1 j = m.2.1 j) (eq : ∀ q, q ≠ 19 → q ≠ 26 → q ≠ 28 → q ≠ 29 → m'.1 q = m.1 q) : KM m0 m' := ⟨fun c hc => by rw [ej 13 (by omega)]; exact hk.1 c hc, fun i _ => by rw [e10], fun j hj => by rw [ej j (by omega)]; exact hk.2.2.1 j hj, fun q a b c e f => by rw [eq q a b c e]; exact hk.2.2.2 q a b c e f⟩
theorem sumI_up {f g : Nat → Int32} {q : Nat} {v : Int32} (e : g q = f q + v) (h : ∀ i, i ≠ q → g i = f i) : ∀ n, q < n → sumI g n = sumI f n + v
  | 0, hq => absurd hq (by omega)
  | n + 1, hq => by
    show sumI g n + g n = sumI f n + f n + v
    by_cases c : n = q
    · subst c
      rw [e, sumI_c (f := g) (g := f) (n := n) fun i hi => h i (by omega)]
      grind
    · rw [h n c, sumI_up e h n (by omega)]
      grind
/-- a house's heat set -/
theorem VA_heat {C : AC} {A : AA} {m : MS} {fo F} (hA : VA (CW C fo F none) A m) (q : Nat) (hq : q < C.1) (h6 : C.1 ≤ 6) (v : Int32) : VA (CW C fo F none) (setA A 1 q v) (mA m 10 (14 + 4 * q + 1) v) := by
  obtain ⟨a1, ⟨a13, a10, aw⟩, a11, a12, ag, arow⟩ := hA
  refine ⟨fun h hh => ?_, ⟨?_, ?_, ?_⟩, ?_, fun hx => ?_, ?_, arow⟩
  · have hh' : h < C.1 := hh
    obtain ⟨c0, c1, c2, c3⟩ := a1 h hh
    refine ⟨?_, ?_, ?_, ?_⟩
    · rw [mA_n _ _ _ _ (by omega), c0]; simp [setA, va_up]
    · by_cases e : h = q
      · subst e; rw [show 15 + 4 * h = 14 + 4 * h + 1 by omega, mA_s]; simp [setA, va_up]
      · rw [mA_n _ _ _ _ (by omega), c1]; simp [setA, va_up, e]
    · rw [mA_n _ _ _ _ (by omega), c2]; simp [setA, va_up]
    · rw [mA_n _ _ _ _ (by omega), c3]; simp [setA, va_up]
  · rw [mA_n _ _ _ _ (by omega)]; exact a13
  · rw [mA_n _ _ _ _ (by omega)]; exact a10
  · rw [mA_n _ _ _ _ (by omega)]; exact aw
  · rw [mA_n _ _ _ _ (by omega)]; exact a11
  · rw [mA_n _ _ _ _ (by omega)]; exact a12 hx
  · refine Eq.trans ?_ ag
    congr 1
    exact sumI_c fun i hi => by
      have : i < C.1 := hi
      rw [mA_n _ _ _ _ (by omega), mA_n _ _ _ _ (by omega)]
theorem VX_heat {C : AC} {A : AA} {s : SS} (h : VX C A s) (q : Nat) (hq : q < C.1) (v : Int32) : VX C (setA A 1 q v) (sA s 1 q v) := by
  obtain ⟨b1, bz, b2, b3, b4, b5⟩ := h
  refine ⟨fun h hh => ?_, fun h hn hh => ?_, b2, b3, b4, ?_⟩
  · obtain ⟨c0, c1, c2, c3⟩ := b1 h hh
    refine ⟨?_, ?_, ?_, ?_⟩
    · rw [sA_o _ _ _ _ _ (by omega), c0]; simp [setA, va_up]
    · by_cases e : h = q
      · subst e; rw [sA_s]; simp [setA, va_up]
      · rw [sA_n _ _ _ _ _ e, c1]; simp [setA, va_up, e]
    · rw [sA_o _ _ _ _ _ (by omega), c2]; simp [setA, va_up]
    · rw [sA_o _ _ _ _ _ (by omega), c3]; simp [setA, va_up]
  · rw [sA_o _ _ _ _ _ (by omega), sA_n _ _ _ _ _ (by omega)]; exact bz h hn hh
  · rw [sA_o _ _ _ _ _ (by omega)]
    exact ⟨b5.1, fun h hh => by rw [b5.2 h hh]; simp [setA, va_up]⟩
theorem WA_heat {C : AC} {A : AA} (h : WA C A) (q : Nat) (v : Int32) (h0 : 0 ≤ v) (h9 : v ≤ 9) : WA C (setA A 1 q v) := by
  obtain ⟨w1, w2⟩ := h
  refine ⟨fun h hh => ?_, w2⟩
  by_cases e : h = q
  · subst e
    have : (setA A 1 h v).1 1 h = v := by simp [setA, va_up]
    rw [this]
    exact ⟨h0, h9⟩
  · have : (setA A 1 q v).1 1 h = A.1 1 h := by simp [setA, va_up, e]
    rw [this]
    exact w1 h hh
/-- a house's worth gone, saved -/
theorem VA_worth {C : AC} {A : AA} {m : MS} {fo F} (hA : VA (CW C fo F none) A m) (h27 : m.1 27 = 0) (q : Nat) (hq : q < C.1) (h6 : C.1 ≤ 6) : VA (CW C fo F none) (setA A 0 q 0) (mF (mA m 10 (14 + 4 * q) 0) 27 (A.1 0 q)) := by
  obtain ⟨a1, ⟨a13, a10, aw⟩, a11, a12, ag, -⟩ := hA
  unfold VA
  rw [mF_2, mF_s]
  refine ⟨fun h hh => ?_, ⟨?_, ?_, ?_⟩, ?_, fun hx => ?_, ?_, fun h => nomatch h⟩
  · have hh' : h < C.1 := hh
    obtain ⟨c0, c1, c2, c3⟩ := a1 h hh
    refine ⟨?_, ?_, ?_, ?_⟩
    · by_cases e : h = q
      · subst e; rw [mA_s]; simp [setA, va_up]
      · rw [mA_n _ _ _ _ (by omega), c0]; simp [setA, va_up, e]
    · rw [mA_n _ _ _ _ (by omega), c1]; simp [setA, va_up]
    · rw [mA_n _ _ _ _ (by omega), c2]; simp [setA, va_up]
    · rw [mA_n _ _ _ _ (by omega), c3]; simp [setA, va_up]
  · rw [mA_n _ _ _ _ (by omega)]; exact a13
  · rw [mA_n _ _ _ _ (by omega)]; exact a10
  · rw [mA_n _ _ _ _ (by omega)]; exact aw
  · rw [mA_n _ _ _ _ (by omega)]; exact a11
  · rw [mA_n _ _ _ _ (by omega)]; exact a12 hx
  · show _ = A.2.1 3
    rw [← ag, h27, Int32.sub_zero]
    have hu := sumI_up (f := fun h => m.2.1 10 (93 + 3 * h) - m.2.1 10 (14 + 4 * h)) (g := fun h => (mA m 10 (14 + 4 * q) 0).2.1 10 (93 + 3 * h) - (if h = q then 0 else m.2.1 10 (14 + 4 * h))) (q := q) (v := A.1 0 q) (by
      show (mA m 10 (14 + 4 * q) 0).2.1 10 (93 + 3 * q) - (if q = q then 0 else _) = _
      rw [if_pos rfl, mA_n _ _ _ _ (by omega), (a1 q hq).1]
      grind) (fun i hi => by
      show (mA m 10 (14 + 4 * q) 0).2.1 10 (93 + 3 * i) - (if i = q then 0 else _) = _
      rw [if_neg hi]
      by_cases e : 93 + 3 * i = 14 + 4 * q
      · omega
      · rw [mA_n _ _ _ _ e]) C.1 hq
    have hc : sumI (fun h => (mA m 10 (14 + 4 * q) 0).2.1 10 (93 + 3 * h) - (mA m 10 (14 + 4 * q) 0).2.1 10 (14 + 4 * h)) C.1 = sumI (fun h => (mA m 10 (14 + 4 * q) 0).2.1 10 (93 + 3 * h) - (if h = q then 0 else m.2.1 10 (14 + 4 * h))) C.1 := sumI_c fun i hi => by
      by_cases e : i = q
      · subst e; rw [if_pos rfl, mA_s]
      · rw [if_neg e, mA_n m (14 + 4 * q) 0 (14 + 4 * i) (by omega)]
    show sumI (fun h => (mA m 10 (14 + 4 * q) 0).2.1 10 (93 + 3 * h) - (mA m 10 (14 + 4 * q) 0).2.1 10 (14 + 4 * h)) C.1 - A.1 0 q = sumI (fun h => m.2.1 10 (93 + 3 * h) - m.2.1 10 (14 + 4 * h)) C.1
    rw [hc, hu]
    grind
theorem VX_worth {C : AC} {A : AA} {s : SS} (h : VX C A s) (q : Nat) (hq : q < C.1) (v : Int32) : VX C (setA A 0 q v) (sA s 0 q v) := by
  obtain ⟨b1, bz, b2, b3, b4, b5⟩ := h
  refine ⟨fun h hh => ?_, fun h hn hh => ?_, b2, b3, b4, ?_⟩
  · obtain ⟨c0, c1, c2, c3⟩ := b1 h hh
    refine ⟨?_, ?_, ?_, ?_⟩
    · by_cases e : h = q
      · subst e; rw [sA_s]; simp [setA, va_up]
      · rw [sA_n _ _ _ _ _ e, c0]; simp [setA, va_up, e]
    · rw [sA_o _ _ _ _ _ (by omega), c1]; simp [setA, va_up]
    · rw [sA_o _ _ _ _ _ (by omega), c2]; simp [setA, va_up]
    · rw [sA_o _ _ _ _ _ (by omega), c3]; simp [setA, va_up]
  · rw [sA_n _ _ _ _ _ (by omega), sA_o _ _ _ _ _ (by omega)]; exact bz h hn hh
  · rw [sA_o _ _ _ _ _ (by omega)]
    exact ⟨b5.1, fun h hh => by rw [b5.2 h hh]; simp [setA, va_up]⟩
theorem WA_worth {C : AC} {A : AA} (h : WA C A) (q : Nat) (v : Int32) : WA C (setA A 0 q v) := by
  obtain ⟨w1, w2⟩ := h
  refine ⟨fun h hh => ?_, w2⟩
  have : (setA A 0 q v).1 1 h = A.1 1 h := by simp [setA, va_up]
  rw [this]
  exact w1 h hh
