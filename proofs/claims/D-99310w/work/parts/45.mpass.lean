/-! m's hour -/
def Fr (m m' : MS) : Prop := (∀ j, j ≠ 10 → m'.2.1 j = m.2.1 j) ∧ (∀ i, i < 10 ∨ 38 ≤ i → m'.2.1 10 i = m.2.1 10 i) ∧ (∀ k, k ≠ 19 → k ≠ 26 → k ≠ 28 → k ≠ 29 → m'.1 k = m.1 k) ∧ m'.2.2.2 = m.2.2.2
def SM (m m' : MS) : Prop := m'.2.1 = m.2.1 ∧ (∀ k, k ≠ 19 → m'.1 k = m.1 k) ∧ m'.2.2.2 = m.2.2.2
/-- a rule of m's reckons F -/
def RuM (m : MS) (r : Nat) (F : (Nat → Int64) → Int64) : Prop := ∀ (k : Nat) (d : AH) (x : XS) (m' : MS), (∀ j, j = 2 ∨ j = 4 ∨ j = 5 → m'.2.1 j = m.2.1 j) → ∃ m'', callR (k + 3) n_X4_summedBy [.ref 153, .int (nI r)] (P d x m') = some (.inl (some (.long (F fun i => if i < 11 then m'.2.2.1 9 i else 0))), P d x m'') ∧ SM m' m''
def VC (C : AC) (m : MS) : Prop := (m.2.1 10 3 = nI C.1 ∧ C.1 ≤ 6) ∧ (∀ a b, a < 7 → b < 7 → m.2.1 10 (44 + 7 * a + b) = C.2.1 a b) ∧ (∀ h, h < C.1 → m.2.1 10 (38 + h) = C.2.2.1 h) ∧ m.2.1 10 2 = C.2.2.2.1 ∧
  (match C.2.2.2.2.1 with | none => m.1 22 < 0 | some F => ∃ r, r < 6 ∧ m.1 22 = nI r ∧ RuM m r F) ∧
  (match C.2.2.2.2.2 with | none => m.1 25 < 0 | some q => q.1 ≤ 6 ∧ m.1 25 = nI q.1 ∧ ∀ i, i < q.1 → m.2.1 11 i = nI (q.2 i) ∧ q.2 i < 6) ∧ (∀ h, h < C.1 → C.2.2.1 h &&& 63 = C.2.2.1 h)
def VA (C : AC) (A : AA) (m : MS) : Prop := (∀ h, h < C.1 → m.2.1 10 (14 + 4 * h) = A.1 0 h ∧ m.2.1 10 (15 + 4 * h) = A.1 1 h ∧ m.2.1 10 (16 + 4 * h) = A.1 2 h ∧ m.2.1 10 (17 + 4 * h) = A.1 3 h) ∧
  (m.2.1 10 13 = A.2.1 0 ∧ m.2.1 10 10 = A.2.1 1 ∧ m.2.1 10 1 = A.2.1 2) ∧ m.2.1 10 11 = nI (A.2.2 0) ∧ (0 < A.2.1 0 → m.2.1 10 12 = nI (A.2.2 1)) ∧
  sumI (fun h => m.2.1 10 (93 + 3 * h) - m.2.1 10 (14 + 4 * h)) C.1 - m.1 27 = A.2.1 3 ∧ (C.2.2.2.2.2.isSome = true → m.1 26 = nI (A.2.2 2))
theorem RuM_fr {m m' : MS} {r : Nat} {F : (Nat → Int64) → Int64} (h : RuM m r F) (e : ∀ j, j = 2 ∨ j = 4 ∨ j = 5 → m'.2.1 j = m.2.1 j) : RuM m' r F := by
  intro k d x m2 h2
  exact h k d x m2 fun j hj => (h2 j hj).trans (e j hj)
theorem VC_fr {C : AC} {m m' : MS} (h : VC C m) (f : Fr m m') : VC C m' := by
  obtain ⟨h1, h2, h3, h4, h5, h6, h7⟩ := h
  obtain ⟨f1, f2, f3, f4⟩ := f
  refine ⟨⟨by rw [f2 3 (by omega)]; exact h1.1, h1.2⟩, fun a b ha hb => by rw [f2 _ (by omega)]; exact h2 a b ha hb, fun h hh => by rw [f2 _ (by omega)]; exact h3 h hh, by rw [f2 2 (by omega)]; exact h4, ?_, ?_, h7⟩
  · rw [f3 22 (by omega) (by omega) (by omega) (by omega)]
    split at h5
    · exact h5
    · obtain ⟨r, hr, h5, h6⟩ := h5
      exact ⟨r, hr, h5, RuM_fr h6 fun j hj => f1 j (by omega)⟩
  · rw [f3 25 (by omega) (by omega) (by omega) (by omega), f1 11 (by omega)]
    exact h6
theorem Fr_refl (m : MS) : Fr m m := ⟨fun _ _ => rfl, fun _ _ => rfl, fun _ _ _ _ _ => rfl, rfl⟩
theorem Fr_trans {a b c : MS} (h : Fr a b) (g : Fr b c) : Fr a c := ⟨fun j hj => (g.1 j hj).trans (h.1 j hj), fun i hi => (g.2.1 i hi).trans (h.2.1 i hi), fun k a b c d => (g.2.2.1 k a b c d).trans (h.2.2.1 k a b c d), g.2.2.2.trans h.2.2.2⟩
theorem SM_fr {a b : MS} (h : SM a b) : Fr a b := ⟨fun j _ => by rw [h.1], fun i _ => by rw [h.1], fun k a _ _ _ => h.2.1 k a, h.2.2⟩
theorem SM_trans {a b c : MS} (h : SM a b) (g : SM b c) : SM a c := ⟨g.1.trans h.1, fun k e => (g.2.1 k e).trans (h.2.1 k e), g.2.2.trans h.2.2⟩
theorem VA_SM {C : AC} {A : AA} {m m' : MS} (h : VA C A m) (f : SM m m') : VA C A m' := by
  unfold VA
  rw [f.1, f.2.1 27 (by omega), f.2.1 26 (by omega)]
  exact h
/-! sums by a rule -/
theorem and63 : ∀ a, a < 64 → ∀ b, b < 64 → nI a &&& nI b = nI (a &&& b) := by decide
theorem or63 : ∀ a, a < 64 → ∀ b, b < 64 → nI a ||| nI b = nI (a ||| b) := by decide
theorem bit6 : ∀ h, h < 6 → (1 : Int32) <<< (nI h &&& 31) = nI (2 ^ h) := by decide
theorem hotB_nI (f : Nat → Int32) (h : Nat) (hh : h < 6) : ∃ j, j < 64 ∧ hotB f h = nI j := by
  unfold hotB
  split
  · exact ⟨2 ^ h, by have : 2 ^ h ≤ 2 ^ 5 := Nat.pow_le_pow_right (by omega) (by omega); omega, bit6 h hh⟩
  · exact ⟨0, by omega, rfl⟩
theorem orI_nI {f : Nat → Int32} : ∀ n, (∀ h, h < n → ∃ j, j < 64 ∧ f h = nI j) → ∃ j, j < 64 ∧ orI f n = nI j
  | 0, _ => ⟨0, by omega, rfl⟩
  | n + 1, e => by
    obtain ⟨a, ha, e1⟩ := orI_nI n fun h hh => e h (by omega)
    obtain ⟨b, hb, e2⟩ := e n (by omega)
    refine ⟨a ||| b, Nat.or_lt_two_pow (n := 6) ha hb, ?_⟩
    show orI f n ||| f n = _
    rw [e1, e2, or63 a ha b hb]
theorem hot_nI (f : Nat → Int32) (n : Nat) (hn : n ≤ 6) : ∃ j, j < 64 ∧ orI (hotB f) n = nI j := orI_nI n fun h hh => hotB_nI f h (by omega)
theorem and_63 (v : Int32) : ∃ j, j < 64 ∧ v &&& 63 = nI j := pk_andE v 6 (by decide)
theorem hotB_c {f g : Nat → Int32} {h : Nat} (e : f h = g h) : hotB f h = hotB g h := by unfold hotB; rw [e]
theorem M_sumOf (k : Nat) (d : AH) (x : XS) (m : MS) (C : AC) (A : AA) (h : Nat) (hh : h < C.1) (hp : A.2.2 0 ≤ C.1) (hC : VC C m) (hA : VA C A m) : ∃ m', callR (k + 4) n_X4_sumOf [.ref 153, .int (nI h)] (P d x m) = some (.inl (some (.long (wA C A h))), P d x m') ∧ SM m m' := by
  obtain ⟨⟨h3, h6⟩, hfr, hbe, hlp, hw, hrow, hb63⟩ := hC
  obtain ⟨a1, ⟨a13, a10, aw⟩, a11, a12, ag, arow⟩ := hA
  obtain ⟨b0, b1, b2, b3⟩ := a1 h hh
  have hf : orI (hotB fun h => m.2.1 10 (15 + 4 * h)) C.1 = orI (hotB (A.1 1)) C.1 := orI_c fun i hi => hotB_c (a1 i hi).2.1
  unfold wA
  split at hw
  next ew =>
    refine ⟨m, ?_, rfl, fun _ _ => rfl, rfl⟩
    simp (disch := omega) only [e_X4_sumOf_0, e_X4_sumOf_7, e_X4_sumOf_15, e_X4_sumOf_24, e_X4_sumOf_25, e_X4_sumOf_26, e_X4_sumOf_71, e_X4_sumOf_75, e_X4_sumOf_76, c_X4_sumOf, cond_true, cond_false, Option.bind_some, rI_s, rL_s, rR_s, rV_s, cnd_d, cnd_ne, cnd_eq, bI_d0, bI_t0, ite_not, decide_eq_false_iff_not, decide_eq_true_eq, okb_1, okb_0, okb_b, li_2, li_3, li_4, li_5, li_6, li_7, li_8, li_9, li_10, li_11, li_12, li_13, li_14, li_15, li_16, li_18, li_20, li_22, li_24, li_25, li_26, li_28, li_32, li_38, li_40, li_43, li_44, li_45, li_46, li_47, li_48, li_49, li_50, li_54, li_56, li_59, li_60, li_61, li_64, li_91, li_93, li_99, li_100, li_111, li_112, li_117, li_122, li_123, li_131, li_132, li_200, li_255, li_256, li_400, li_560, li_9999, li_10000, li_99999, li_65536, pk_mul, nI_add, nI_1, neg_lt0, neg_le0, nI_nn, nI_nlt0, isO_M, lm_1, sm_1, lm_2, sm_2, lm_3, sm_3, lm_4, sm_4, lm_5, sm_5, lm_6, sm_6, lm_7, sm_7, lm_8, sm_8, lm_9, sm_9, lm_10, sm_10, lm_11, sm_11, lm_12, sm_12, lm_13, sm_13, lm_14, sm_14, lm_15, sm_15, lm_16, sm_16, lm_17, sm_17, lm_18, sm_18, lm_19, sm_19, lm_20, sm_20, lm_21, sm_21, rm_0, rm_1, wm_1, rm_2, wm_2, rm_3, rm_4, rm_5, rm_6, rm_7, rm_8, wm_8, rm_9, wm_9, rm_10, wm_10, rm_11, wm_11, rm_12, wm_12, rm_13, wm_13, rm_14, wm_14, rm_15, rm_16, wm_16, rm_17, wm_17, rm_18, rm_19, wm_19, rm_20, rm_21, rm_22, wm_22, rm_23, wm_23, rm_24, rm_25, wm_25, rm_26, wm_26, rm_27, wm_27, rm_28, wm_28, rm_29, wm_29, rm_30, rm_31, wm_31, rm_32, rm_33, rm_34, wm_34, rm_35, rm_36, rm_37, rm_38, wm_38, rm_39, rm_40, rm_41, rm_42, M_heatOf, M_saysOf, b1, b2]
    rw [if_neg (by simpa using hw), ew]
    by_cases hq : 0 < A.1 1 h
    · rw [if_neg (by simpa using hq)]; simp only [if_pos hq]
    · rw [if_pos (by simpa using hq)]; simp only [if_neg hq]
  next F ew =>
    obtain ⟨r, hr, h22, hF⟩ := hw
    obtain ⟨jf, hjf, ejf⟩ := hot_nI (A.1 1) C.1 h6
    obtain ⟨jb, hjb, ejb⟩ := and_63 (C.2.2.1 h)
    rw [hb63 h hh] at ejb
    have hab : C.2.2.1 h &&& orI (hotB (A.1 1)) C.1 = nI (jb &&& jf) := by rw [ejf, ejb, and63 jb hjb jf hjf]
    have hab2 : jb &&& jf < 64 := Nat.and_lt_two_pow (n := 6) _ hjf
    have hm : ∀ (i : Nat) (v : Int64) (m : MS), (mL m 9 i v).2.1 = m.2.1 := fun _ _ _ => rfl
    have hm1 : ∀ (i : Nat) (v : Int64) (m : MS), (mL m 9 i v).1 = m.1 := fun _ _ _ => rfl
    have hL0 : ∀ m v, stL (P d x m) 162 (0 : Int32) v = some (P d x (mL m 9 0 v)) := fun m v => sm_9 d x m 0 v (by omega)
    have hL1 : ∀ m v, stL (P d x m) 162 (1 : Int32) v = some (P d x (mL m 9 1 v)) := fun m v => sm_9 d x m 1 v (by omega)
    have hl1 : ∀ m, ldI (P d x m) 163 0 (1 : Int32) = some (m.2.1 10 1) := fun m => lm_10 d x m 1 (by omega)
    have hfi : ∀ m' : MS, m'.2.1 = m.2.1 → callR (k + 3) n_X4_fires [.ref 153] (P d x m') = some (.inl (some (.int (nI jf))), P d x m') := by
      intro m' e
      rw [M_fires (k + 1) d x m' C.1 h6 (by rw [e]; exact h3), e, hf, ejf]
    have hlo : ∀ m' : MS, m'.2.1 = m.2.1 → m'.1 = m.1 → callR (k + 3) n_X4_lostAll [.ref 153] (P d x m') = some (.inl (some (.int (A.2.1 3))), P d x m') := by
      intro m' e e1
      rw [M_lostAll k d x m' C.1 h6 (by rw [e]; exact h3), e, e1, ag]
    have hfa := hfr (A.2.2 0) (h + 1) (by omega) (by omega)
    have hbe' := hbe h hh
    obtain ⟨m'', e'', s''⟩ := hF k d x (mL (mL (mL (mL (mL (mL (mL (mL (mL (mL (mL m 9 0 (nI h).toInt64) 9 1 (A.1 2 h).toInt64) 9 2 (A.1 0 h).toInt64) 9 3 (if 0 < A.1 1 h then 1 else 0)) 9 4 (C.2.1 (A.2.2 0) (h + 1)).toInt64) 9 5 (pcI (nI (jb &&& jf))).toInt64) 9 6 (pcI (nI jf)).toInt64) 9 7 (A.2.1 3).toInt64) 9 8 (A.1 3 h).toInt64) 9 9 (A.2.1 2).toInt64) 9 10 (A.2.1 1).toInt64) (fun j hj => rfl)
    refine ⟨m'', ?_, SM_trans ⟨rfl, fun _ _ => rfl, rfl⟩ s''⟩
    have hwd : (fun i => if i < 11 then (mL (mL (mL (mL (mL (mL (mL (mL (mL (mL (mL m 9 0 (nI h).toInt64) 9 1 (A.1 2 h).toInt64) 9 2 (A.1 0 h).toInt64) 9 3 (if 0 < A.1 1 h then 1 else 0)) 9 4 (C.2.1 (A.2.2 0) (h + 1)).toInt64) 9 5 (pcI (nI (jb &&& jf))).toInt64) 9 6 (pcI (nI jf)).toInt64) 9 7 (A.2.1 3).toInt64) 9 8 (A.1 3 h).toInt64) 9 9 (A.2.1 2).toInt64) 9 10 (A.2.1 1).toInt64).2.2.1 9 i else 0) = wdA C A h := by
      funext i
      match i with
      | 0 | 1 | 2 | 3 | 4 | 7 | 8 | 9 | 10 => simp [mL, va_up, wdA]
      | 5 => simp [mL, va_up, wdA, hab]
      | 6 => simp [mL, va_up, wdA, ejf]
      | n + 11 => exact if_neg (by omega)
    rw [hwd] at e''
    rw [ew]
    show callR (k + 4) n_X4_sumOf [.ref 153, .int (nI h)] (P d x m) = some (.inl (some (.long (F (wdA C A h)))), P d x m'')
    by_cases hq : 0 < A.1 1 h
    · have hq' : ¬ A.1 1 h ≤ 0 := by simpa using hq
      rw [if_pos hq] at e''
      simp (disch := first | omega | (simp only [hm, hm1]; done)) only [e_X4_sumOf_0, e_X4_sumOf_7, e_X4_sumOf_15, e_X4_sumOf_24, e_X4_sumOf_25, e_X4_sumOf_26, e_X4_sumOf_71, e_X4_sumOf_75, e_X4_sumOf_76, c_X4_sumOf, cond_true, cond_false, Option.bind_some, rI_s, rL_s, rR_s, rV_s, cnd_d, cnd_ne, cnd_eq, bI_d0, bI_t0, ite_not, decide_eq_false_iff_not, decide_eq_true_eq, okb_1, okb_0, okb_b, li_2, li_3, li_4, li_5, li_6, li_7, li_8, li_9, li_10, li_11, li_12, li_13, li_14, li_15, li_16, li_18, li_20, li_22, li_24, li_25, li_26, li_28, li_32, li_38, li_40, li_43, li_44, li_45, li_46, li_47, li_48, li_49, li_50, li_54, li_56, li_59, li_60, li_61, li_64, li_91, li_93, li_99, li_100, li_111, li_112, li_117, li_122, li_123, li_131, li_132, li_200, li_255, li_256, li_400, li_560, li_9999, li_10000, li_99999, li_65536, pk_mul, nI_add, nI_1, neg_lt0, neg_le0, nI_nn, nI_nlt0, isO_M, lm_1, sm_1, lm_2, sm_2, lm_3, sm_3, lm_4, sm_4, lm_5, sm_5, lm_6, sm_6, lm_7, sm_7, lm_8, sm_8, lm_9, sm_9, lm_10, sm_10, lm_11, sm_11, lm_12, sm_12, lm_13, sm_13, lm_14, sm_14, lm_15, sm_15, lm_16, sm_16, lm_17, sm_17, lm_18, sm_18, lm_19, sm_19, lm_20, sm_20, lm_21, sm_21, rm_0, rm_1, wm_1, rm_2, wm_2, rm_3, rm_4, rm_5, rm_6, rm_7, rm_8, wm_8, rm_9, wm_9, rm_10, wm_10, rm_11, wm_11, rm_12, wm_12, rm_13, wm_13, rm_14, wm_14, rm_15, rm_16, wm_16, rm_17, wm_17, rm_18, rm_19, wm_19, rm_20, rm_21, rm_22, wm_22, rm_23, wm_23, rm_24, rm_25, wm_25, rm_26, wm_26, rm_27, wm_27, rm_28, wm_28, rm_29, wm_29, rm_30, rm_31, wm_31, rm_32, rm_33, rm_34, wm_34, rm_35, rm_36, rm_37, rm_38, wm_38, rm_39, rm_40, rm_41, rm_42, M_heatOf, M_saysOf, M_worthOf, hm, hm1, hL0, hL1, hl1, b0, b1, b2, b3, h22, a11, hfa, hq', if_true, if_false, M_farOf, hbe', hfi, M_bits, hlo, a10, aw, ejb, and63 jb hjb jf hjf, show 14 + 4 * h + 3 = 17 + 4 * h by omega, e'']
    · have hq' : A.1 1 h ≤ 0 := by simpa using hq
      rw [if_neg hq] at e''
      simp (disch := first | omega | (simp only [hm, hm1]; done)) only [e_X4_sumOf_0, e_X4_sumOf_7, e_X4_sumOf_15, e_X4_sumOf_24, e_X4_sumOf_25, e_X4_sumOf_26, e_X4_sumOf_71, e_X4_sumOf_75, e_X4_sumOf_76, c_X4_sumOf, cond_true, cond_false, Option.bind_some, rI_s, rL_s, rR_s, rV_s, cnd_d, cnd_ne, cnd_eq, bI_d0, bI_t0, ite_not, decide_eq_false_iff_not, decide_eq_true_eq, okb_1, okb_0, okb_b, li_2, li_3, li_4, li_5, li_6, li_7, li_8, li_9, li_10, li_11, li_12, li_13, li_14, li_15, li_16, li_18, li_20, li_22, li_24, li_25, li_26, li_28, li_32, li_38, li_40, li_43, li_44, li_45, li_46, li_47, li_48, li_49, li_50, li_54, li_56, li_59, li_60, li_61, li_64, li_91, li_93, li_99, li_100, li_111, li_112, li_117, li_122, li_123, li_131, li_132, li_200, li_255, li_256, li_400, li_560, li_9999, li_10000, li_99999, li_65536, pk_mul, nI_add, nI_1, neg_lt0, neg_le0, nI_nn, nI_nlt0, isO_M, lm_1, sm_1, lm_2, sm_2, lm_3, sm_3, lm_4, sm_4, lm_5, sm_5, lm_6, sm_6, lm_7, sm_7, lm_8, sm_8, lm_9, sm_9, lm_10, sm_10, lm_11, sm_11, lm_12, sm_12, lm_13, sm_13, lm_14, sm_14, lm_15, sm_15, lm_16, sm_16, lm_17, sm_17, lm_18, sm_18, lm_19, sm_19, lm_20, sm_20, lm_21, sm_21, rm_0, rm_1, wm_1, rm_2, wm_2, rm_3, rm_4, rm_5, rm_6, rm_7, rm_8, wm_8, rm_9, wm_9, rm_10, wm_10, rm_11, wm_11, rm_12, wm_12, rm_13, wm_13, rm_14, wm_14, rm_15, rm_16, wm_16, rm_17, wm_17, rm_18, rm_19, wm_19, rm_20, rm_21, rm_22, wm_22, rm_23, wm_23, rm_24, rm_25, wm_25, rm_26, wm_26, rm_27, wm_27, rm_28, wm_28, rm_29, wm_29, rm_30, rm_31, wm_31, rm_32, rm_33, rm_34, wm_34, rm_35, rm_36, rm_37, rm_38, wm_38, rm_39, rm_40, rm_41, rm_42, M_heatOf, M_saysOf, M_worthOf, hm, hm1, hL0, hL1, hl1, b0, b1, b2, b3, h22, a11, hfa, hq', if_true, if_false, M_farOf, hbe', hfi, M_bits, hlo, a10, aw, ejb, and63 jb hjb jf hjf, show 14 + 4 * h + 3 = 17 + 4 * h by omega, e'']
